/-! the corridor: the road; first what the reference's picture tells of every moment -/
theorem jo_r (M : MS) (L : Nat) (now : Int) : ∀ n : Nat, ∃ r, r ≤ n ∧ (∀ k, k < r → M 21 (40 * L + k) = now) ∧ (r < n → ¬ M 21 (40 * L + r) = now) := by
  intro n
  induction n with
  | zero => exact ⟨0, Nat.le_refl _, fun k hk => absurd hk (Nat.not_lt_zero k), fun h => absurd h (Nat.not_lt_zero 0)⟩
  | succ n ih =>
    obtain ⟨r, h1, h2, h3⟩ := ih
    by_cases e : r < n
    · exact ⟨r, by omega, h2, fun _ => h3 e⟩
    · have er : r = n := by omega
      subst er
      by_cases e2 : M 21 (40 * L + r) = now
      · refine ⟨r + 1, Nat.le_refl _, fun k hk => ?_, fun h => absurd h (Nat.lt_irrefl _)⟩
        by_cases e3 : k = r
        · rw [e3]; exact e2
        · exact h2 k (by omega)
      · exact ⟨r, by omega, h2, fun _ => e2⟩
theorem jo_ex (M : MS) (L T : Nat) (now : Int) (hT : T ≤ 40) : ∃ M1 r, mJo M M1 L T r now ∧ (r < T → ¬ M 21 (40 * L + r) = now) := by
  obtain ⟨r, h1, h2, h3⟩ := jo_r M L now T
  refine ⟨fun f i => if f = 20 ∧ i = L then (T : Int) - r else if f = 18 ∧ i = L + 1 then M 18 (L + 1) + r else if f = 21 ∧ 40 * L ≤ i ∧ i - 40 * L + r < T then M 21 (i + r) else M f i, r, ⟨h1, h2, if_pos ⟨rfl, rfl⟩, ?_, fun k hk => ?_, fun f i a b c => ?_⟩, h3⟩
  · show (if (18 : Nat) = 20 ∧ L + 1 = L then _ else if (18 : Nat) = 18 ∧ L + 1 = L + 1 then _ else _) = _
    rw [if_neg (by omega), if_pos ⟨rfl, rfl⟩]
  · show (if (21 : Nat) = 20 ∧ 40 * L + k = L then _ else if (21 : Nat) = 18 ∧ 40 * L + k = L + 1 then _ else if (21 : Nat) = 21 ∧ 40 * L ≤ 40 * L + k ∧ 40 * L + k - 40 * L + r < T then M 21 (40 * L + k + r) else _) = _
    rw [if_neg (by omega), if_neg (by omega), if_pos (by omega), Nat.add_assoc]
  · show (if f = 20 ∧ i = L then _ else if f = 18 ∧ i = L + 1 then _ else if f = 21 ∧ 40 * L ≤ i ∧ i - 40 * L + r < T then _ else _) = _
    rw [if_neg b, if_neg a, if_neg (by omega)]
section RGS
variable {S S0 : GS} {M : MS} {j : Nat}
theorem RG_head (hI : gI S0) (hj : j < gN S0) (h : RG j S0 S M) : ∃ M1, RG (j + 1) S0 (sHead S j) M1 := by
  by_cases e : j = 0
  · exact ⟨fun f i => mAr S M f i, RG.ar2 hI e h (fun _ _ => rfl)⟩
  · obtain ⟨L, eL⟩ : ∃ L, j = L + 1 := ⟨j - 1, by omega⟩
    subst eL
    have hn : gN S = gN S0 := h.1.n
    have hI2 := h.1.gI hI h.2.1
    have hLk := h.2.2.2.1.2.2 L (by omega)
    have hq := (h.2.2.2.1.2.1 (L + 1) (by omega)).2.2.2
    have hr := (hI2.2.2 L (by omega)).2.2.2.2.2.2.1
    have h2 := hLk.2.1
    have hT : M 20 L = ((gTrv S L).toNat : Int) := by rw [hLk.1]; omega
    obtain ⟨M1, r, h3, h4⟩ := jo_ex M L (gTrv S L).toNat (gNow S) (by omega)
    exact ⟨M1, RG.jo2 hI rfl hj h hT h3 h4⟩
theorem RG_one (hI : gI S0) (hj : j < gN S0) (h : RG (j + 1) S0 S M) : ∃ M1, RG (j + 1) S0 (sOne S j) M1 := ⟨fun f i => mLv S M j (mGn S (grn S j) (clr S j) M j 0 (gNow S) true) f i, RG.lv hI hj h (fun _ _ => rfl)⟩
theorem RG_K (hI : gI S0) (h : RG 0 S0 S M) : ∀ j, j ≤ gN S0 → ∃ M1, RG j S0 (sK S j) M1 := by
  intro j
  induction j with
  | zero => intro _; exact ⟨M, h⟩
  | succ j ih =>
    intro hj
    obtain ⟨M1, h1⟩ := ih (by omega)
    obtain ⟨M2, h2⟩ := RG_head hI (by omega) h1
    obtain ⟨M3, h3⟩ := RG_one hI (by omega) h2
    exact ⟨M3, h3⟩
theorem RG_Sec (hI : gI S0) (h : RG 0 S0 S M) (hN : gNow S < 7200) : ∃ M1, RG 0 S0 (sSec S) M1 := by
  obtain ⟨M1, h1⟩ := RG_K hI h (gN S0) (Nat.le_refl _)
  have hn : gN S = gN S0 := h.1.n
  have h2 := RG.now hI rfl h1 (by rw [sK_now]; exact hN) (M1 := fun f i => if f = 14 ∧ i = 0 then gNow (sK S (gN S0)) + 1 else M1 f i) (fun _ _ => rfl)
  unfold sSec
  rw [hn]
  exact ⟨_, h2⟩
theorem RG_Run {t : Nat} (hI : gI S0) (h : RG 0 S0 S0 M) (hN : gNow S0 + t ≤ 7200) : ∀ k, k ≤ t → ∃ M1, RG 0 S0 (sRun S0 k) M1 := by
  intro k
  induction k with
  | zero => intro _; exact ⟨M, h⟩
  | succ k ih =>
    intro hk
    obtain ⟨M1, h1⟩ := ih (by omega)
    exact RG_Sec hI h1 (by rw [sRun_now]; omega)
/-- at the start of a run -/
theorem RL.RG0 (h : RL S M) : ∃ M1, RG 0 (gset S 33 0 0 1) (gset S 33 0 0 1) M1 := by
  refine ⟨_, RG_0 (M1 := fun f i => if f = 11 then grn S (i / 4) (i % 4) else if f = 12 then clr S (i / 4) (i % 4) else M f i) h.1 h.2.1 h.2.2.1 h.2.2.2.1 h.2.2.2.2.1 (fun j hj p hp => ?_) (fun f i a b c d => ?_)⟩
  · have hnp := (h.1.2.2 j hj).1
    refine ⟨?_, ?_⟩
    · show (if (11 : Nat) = 11 then grn S ((4 * j + p) / 4) ((4 * j + p) % 4) else _) = _
      rw [if_pos rfl, show (4 * j + p) / 4 = j by omega, show (4 * j + p) % 4 = p by omega]
    · show (if (12 : Nat) = 11 then _ else if (12 : Nat) = 12 then clr S ((4 * j + p) / 4) ((4 * j + p) % 4) else _) = _
      rw [if_neg (by omega), if_pos rfl, show (4 * j + p) / 4 = j by omega, show (4 * j + p) % 4 = p by omega]
  · show (if f = 11 then _ else if f = 12 then _ else M f i) = _
    rw [if_neg b, if_neg c]
/-- the bounds that a moment has -/
theorem RG.bq {i : Nat} (hI : gI S0) (hi : i ≤ gN S0) (h : RG i S0 S M) : ∀ j, j < gN S → (0 ≤ gQue S j ∧ gQue S j ≤ 7300) ∧ (0 ≤ gRdy S j ∧ gRdy S j ≤ 2) ∧ (j + 1 < gN S → 0 ≤ gTrv S j ∧ gTrv S j ≤ 40) := by
  intro j hj
  have hI2 := h.1.gI hI h.2.1
  have h1 := h.2.2.2.1.2.1 j hj
  have h2 := h.2.1
  refine ⟨⟨h1.2.2.2, ?_⟩, h1.2.2.1, fun h3 => ?_⟩
  · by_cases e : j = 0
    · subst e
      have h4 := h.2.2.2.1.1.2.1
      split at h4 <;> omega
    · have h4 := (h.2.2.2.1.2.2 (j - 1) (by omega)).2.1
      rw [show j - 1 + 1 = j by omega] at h4
      have h5 := (hI2.2.2 (j - 1) (by omega)).2.2.2.2.2.2.1
      omega
  · have h4 := (h.2.2.2.1.2.2 j h3).2.1
    have h5 := (hI2.2.2 j hj).2.2.2.2.2.2.1
    have h6 := (h.2.2.2.1.2.1 (j + 1) h3).2.2.2
    omega
end RGS
/-! the states within a junction's second -/
def sJ0 (S : GS) (j : Nat) : GS := if 0 < j then gset (gset S 19 j 0 (gQue S j + gCom S j (slt S))) 22 (j - 1) 0 (gTrv S (j - 1) - gCom S j (slt S)) else gset S 19 j 0 (gQue S j + gCom S j (slt S))
theorem sJ0_s (S : GS) (j : Nat) : gset (sJ0 S j) 5 j (slt S) 0 = sJ S j := by
  unfold sJ0 sJ
  split <;> rfl
theorem sJ0_2 (S : GS) (j : Nat) : (sJ0 S j).2 = S.2 := by
  unfold sJ0
  split <;> rfl
theorem head_ne {S : GS} {j : Nat} (h : ¬ j = 0) : sHead S j = sJ S j := if_neg h
theorem head_lo {S T : GS} {j : Nat} (hT : T = sJ S j) (h : j = 0) (h2 : ¬ 3600 ≤ gArr T j + gFl T j 0) : sHead S j = gset T 20 j 0 (gArr T j + gFl T j 0) := by
  subst h
  subst hT
  unfold sHead sA
  rw [if_pos rfl, if_neg h2]
theorem head_hi {S T : GS} {j : Nat} (hT : T = sJ S j) (h : j = 0) (h2 : 3600 ≤ gArr T j + gFl T j 0) : sHead S j = gset (gset (gset (gset T 20 j 0 (gArr T j + gFl T j 0)) 20 j 0 (gArr T j + gFl T j 0 - 3600)) 19 j 0 (gQue T j + 1)) 34 0 0 (gCam T + 1) := by
  subst h
  subst hT
  unfold sHead sA
  rw [if_pos rfl, if_pos h2, gset_gset]
theorem sL_no {S : GS} {j : Nat} (h : ¬ (gRdy S j = 2 ∧ 0 < gQue S j ∧ (j + 1 = gN S ∨ gTrv S j + gQue S (j + 1) < gRoo S j))) : sL S j = S := by
  unfold sL sGo
  rw [decide_eq_false h, if_neg (by decide)]
theorem sL_last {S : GS} {j : Nat} (h : gRdy S j = 2 ∧ 0 < gQue S j ∧ (j + 1 = gN S ∨ gTrv S j + gQue S (j + 1) < gRoo S j)) (h2 : j + 1 = gN S) : sL S j = gset (gset (gset S 19 j 0 (gQue S j - 1)) 21 j 0 0) 35 0 0 (gLef S + 1) := by
  unfold sL sGo
  rw [decide_eq_true h, if_pos rfl, if_pos h2]
theorem sL_go {S : GS} {j : Nat} (h : gRdy S j = 2 ∧ 0 < gQue S j ∧ (j + 1 = gN S ∨ gTrv S j + gQue S (j + 1) < gRoo S j)) (h2 : ¬ j + 1 = gN S) : sL S j = gset (gset (gset (gset S 19 j 0 (gQue S j - 1)) 21 j 0 0) 22 j 0 (gTrv S j + 1)) 5 (j + 1) (sl2 S j) (gCom S (j + 1) (sl2 S j) + 1) := by
  unfold sL sGo
  rw [decide_eq_true h, if_pos rfl, if_neg h2]
set_option maxHeartbeats 4000000 in
theorem p_heldBehind (l : Launch) (E : EP) (ad : Nat → Nat → Nat) (S : GS) (H : Heap) (hP : GP E ad S H) (hn5 : gN S ≤ 5) (j : Nat) (hj : j + 1 < gN S) : gP l E yX1_heldBehind cX1_heldBehind 2 .int 1 H [.ref (ad 6 0), .int (iI ((j : Nat) : Int))] (gTrv S j + gQue S (j + 1)) := by
  refine g_met (plainFor_of_name (by decide)) (Nat.le_of_ble_eq_true rfl) (fun P_ e_ s M_ bl mt_ c_ ls X _ hk hh hl => ?_)
  subst hh
  have X : gX P_ s M_ mt_ c_ cX1_heldBehind 2 ([.ref (ad 6 0), .int (iI ((j : Nat) : Int))] : List Value).toArray RX1 (some .int) := X
  have hl : lv_has ls 2 [(0, .ref (ad 6 0)), (1, .int (iI ((j : Nat) : Int)))] := hl
  refine g_aload_n X dX1_heldBehind_0 rfl hl 0 rfl ?_
  refine g_get X hk (v := .ref (ad 7 0)) in_X1 rfl (GP.X hP) 0 (by decide) q142 (rfl) dX1_heldBehind_1 ?_
  refine g_iload_n X dX1_heldBehind_4 rfl hl 1 rfl ?_
  refine g_aald X hk (j := j) (n := (gN S)) (q := (ad 0 j)) (GP.Q hP) (cA := 1) rfl rfl (rfl) (by omega) (rfl) dX1_heldBehind_5 ?_
  refine g_getN X hk (v := .int (iI (gTrv S j))) (host := "Greenwave") in_X2 rfl (GP.J hP (show j < gN S by omega)) 12 (by decide) 12 rfl (rfl) dX1_heldBehind_6 ?_
  refine g_aload_n X dX1_heldBehind_9 rfl hl 0 rfl ?_
  refine g_get X hk (v := .ref (ad 7 0)) in_X1 rfl (GP.X hP) 0 (by decide) q142 (rfl) dX1_heldBehind_10 ?_
  refine g_iload_n X dX1_heldBehind_13 rfl hl 1 rfl ?_
  refine g_iconst X dX1_heldBehind_14 ?_
  refine g_iadd X dX1_heldBehind_15 ?_
  refine g_aald X hk (j := (j + 1)) (n := (gN S)) (q := (ad 0 (j + 1))) (GP.Q hP) (cA := 1) rfl rfl (by omega) (by omega) (rfl) dX1_heldBehind_16 ?_
  refine g_getN X hk (v := .int (iI (gQue S (j + 1)))) (host := "Greenwave") in_X2 rfl (GP.J hP hj) 9 (by decide) 9 rfl (rfl) dX1_heldBehind_17 ?_
  refine g_iadd X dX1_heldBehind_20 ?_
  exact g_iretP X (rfl) dX1_heldBehind_21
set_option maxHeartbeats 4000000 in
theorem p_step (l : Launch) (E : EP) (ad : Nat → Nat → Nat) (S : GS) (S0 : GS) (M M2 : MS) (H : Heap) (hP : GP E ad S H) (hI0 : gI S0) (j : Nat) (hj : j < gN S) (hG : RG j S0 S M) (hG2 : RG (j + 1) S0 (sHead S j) M2) (q : Nat) (hq : ce E q (aI E (gNp S j) (grn S j)) H) (hqA : ∀ k i, gv (gN S) k i → ad k i ≠ q) (hg0 : ∀ i, i < gNp S j → 0 ≤ grn S j i ∧ grn S j i ≤ 1000) : gMv l E yX1_step cX1_step 6 4 0 0 H [.ref (ad 6 0), .int (iI ((j : Nat) : Int)), .ref q] (gW (gN S) ad H) (fun H1 => GP E ad (sOne (sHead S j) j) H1) := by
  refine g_met (plainFor_of_name (by decide)) (Nat.le_of_ble_eq_true rfl) (fun P_ e_ s M_ bl mt_ c_ ls X hmeth_ hk hh hl => ?_)
  subst hh
  have X : gX P_ s M_ mt_ c_ cX1_step 6 ([.ref (ad 6 0), .int (iI ((j : Nat) : Int)), .ref q] : List Value).toArray RX1 none := X
  have hl : lv_has ls 6 [(0, .ref (ad 6 0)), (1, .int (iI ((j : Nat) : Int))), (2, .ref q)] := hl
  have hS : va_S (gW (gN S) ad s.heap) s.heap s.heap [] := va_S.rf
  have hN0 : eN E ≤ s.heap.size := hk.N
  have hA0_ := GP.lts hP
  have hI := hG.1.gI hI0 hG.2.1
  have hn5 := hI.1.1
  have hc := hI.2.1
  have hnow := hI.1.2.2
  have hd := sHead_dy S j
  have hI2 := hG2.1.gI hI0 hG2.2.1
  have hnj : j + 1 ≤ gN S0 := by rw [← hG.1.n]; exact hj
  have hb2 := hG2.bq hI0 hnj
  have hfl := (hI.2.2 j hj).2.2.2.1 0 (by omega)
  have hdj := sJ_dy S j
  have hlk := (hI.2.2 j hj).2.2.2.2.2.1
  refine g_aload_n X dX1_step_0 rfl hl 0 rfl ?_
  refine g_get X hk (v := .ref (ad 7 0)) in_X1 rfl (GP.X hP) 0 (by decide) q142 (rfl) dX1_step_1 ?_
  refine g_iload_n X dX1_step_4 rfl hl 1 rfl ?_
  refine g_aald X hk (j := j) (n := (gN S)) (q := (ad 0 j)) (GP.Q hP) (cA := 1) rfl rfl (rfl) (by omega) (rfl) dX1_step_5 ?_
  refine g_astore_n (lv' := [(3, .ref (ad 0 j)), (0, .ref (ad 6 0)), (1, .int (iI ((j : Nat) : Int))), (2, .ref q)]) X dX1_step_6 rfl hl (by decide) rfl (fun ls hl => ?_)
  refine g_aload_n X dX1_step_7 rfl hl 1 rfl ?_
  refine g_get X hk (v := .int (iI (gNow S))) in_X1 rfl (GP.X hP) 2 (by decide) q144 (rfl) dX1_step_8 ?_
  refine g_bipush X dX1_step_11 rfl ?_
  refine g_iremN X dX1_step_13 (by omega) ?_
  refine g_istore (lv' := [(4, .int (iI ((gNow S) % 61))), (3, .ref (ad 0 j)), (0, .ref (ad 6 0)), (1, .int (iI ((j : Nat) : Int))), (2, .ref q)]) X dX1_step_14 hl (by decide) rfl (fun ls hl => ?_)
  have ev4 : ((gNow S) % 61) = (((slt S) : Nat) : Int) := by unfold slt; omega
  rw [ev4] at hl
  have hl : lv_has ls 6 [(4, .int (iI (((slt S) : Nat) : Int))), (3, .ref (ad 0 j)), (0, .ref (ad 6 0)), (1, .int (iI ((j : Nat) : Int))), (2, .ref q)] := hl
  refine g_aload_n X dX1_step_16 rfl hl 1 rfl ?_
  have hjS := hj
  refine g_dup X dX1_step_17 rfl ?_
  refine g_getN X hk (v := .int (iI (gQue S j))) (host := "Greenwave") in_X2 rfl (GP.J hP hj) 9 (by decide) 9 rfl (rfl) dX1_step_18 ?_
  refine g_aload_n X dX1_step_21 rfl hl 1 rfl ?_
  refine g_getN X hk (v := .ref (ad 5 j)) (host := "Greenwave") in_X2 rfl (GP.J hP hj) 13 (by decide) 13 rfl (rfl) dX1_step_22 ?_
  refine g_iload X dX1_step_25 hl 0 rfl ?_
  refine g_ialdv X hk (j := (slt S)) (n := 61) (f := (gCom S j)) (v := ((gCom S j) (slt S))) (GP.M hP hj) (rfl) (⟨by unfold slt; omega, by omega⟩) (rfl) dX1_step_27 ?_
  refine g_iadd X dX1_step_28 ?_
  refine g_putN X hk hS ⟨Or.inl ⟨0, j, gv_0 (by decide) (by omega), rfl⟩, hP.2.2 _ _ (gv_0 (by decide) hj)⟩ in_X2 tyX2 tyX2_ok nmX2 rfl (GP.J hP hj) 9 (by decide) 9 rfl rfl (ty := .int) (by decide +kernel) rfl rfl (Nat.le_of_ble_eq_true rfl) dX1_step_29 (fun H locs hc_ hk hz_ ho_ hS => ?_)
  have hP : GP E ad (gset S 19 j 0 ((gQue S j) + ((gCom S j) (slt S)))) H := GP.putJ hP hj 9 rfl hc_ ho_
  have hq := hq.kept (ho_ _ (fun e => hqA _ _ (gv_0 (by decide) (by omega)) e.symm))
  have join_59 : gHide (∀ (H : Heap) (locs : List Loc) (ls : Array Slot), (kk E s H) → (GP E ad (sJ0 S j) H) → (va_S (gW (gN S) ad s.heap) s.heap H locs) → (ce E q (aI E (gNp S j) (grn S j)) H) → lv_has ls 6 [(4, .int (iI (((slt S) : Nat) : Int))), (3, .ref (ad 0 j)), (0, .ref (ad 6 0)), (1, .int (iI ((j : Nat) : Int))), (2, .ref q)] → W P_ l e_ (gR 4 0 0) s M_ ([.ref (ad 6 0), .int (iI ((j : Nat) : Int)), .ref q] : List Value).toArray bl mt_ c_ H locs 0 0 (MQ bl (gQv (gW (gN S) ad s.heap) (fun H1 => GP E ad (sOne (sHead S j) j) H1)) ([.ref (ad 6 0), .int (iI ((j : Nat) : Int)), .ref q] : List Value).toArray s 0 0 (gW (gN S) ad s.heap)) (F0 M_ 59 ls [])) := by
    intro H locs ls hk hP hS hq hl
    have hl : lv_has ls 6 [(4, .int (iI (((slt S) : Nat) : Int))), (3, .ref (ad 0 j)), (0, .ref (ad 6 0)), (1, .int (iI ((j : Nat) : Int))), (2, .ref q)] := hl
    have hj : j < gN (sJ0 S j) := by show j < (sJ0 S j).2 0 0; rw [sJ0_2]; exact hj
    have hj0_ := hj
    refine g_aload_n X dX1_step_59 rfl hl 1 rfl ?_
    refine g_getN X hk (v := .ref (ad 5 j)) (host := "Greenwave") in_X2 rfl (GP.J hP hj) 13 (by decide) 13 rfl (rfl) dX1_step_60 ?_
    refine g_iload X dX1_step_63 hl 0 rfl ?_
    refine g_iconst X dX1_step_65 ?_
    refine g_iast X hk hS ⟨Or.inl ⟨5, j, gv_0 (by decide) (by omega), rfl⟩, hP.2.2 _ _ (gv_0 (by decide) hj)⟩ (j := (slt S)) (n := 61) (f := (gCom (sJ0 S j) j)) (GP.M hP hj) (by omega) (by omega) dX1_step_66 (fun H locs hc_ hk hz_ ho_ hS => ?_)
    have hP : GP E ad (gset (sJ0 S j) 5 j (slt S) 0) H := GP.ast hP hj 5 (by decide) (by decide) hc_ ho_
    have hq := hq.kept (ho_ _ (fun e => hqA _ _ (gv_0 (by decide) (by omega)) e.symm))
    have join_128 : gHide (∀ (H : Heap) (locs : List Loc) (ls : Array Slot), (kk E s H) → (GP E ad (sHead S j) H) → (va_S (gW (gN S) ad s.heap) s.heap H locs) → (ce E q (aI E (gNp S j) (grn S j)) H) → lv_has ls 6 [(4, .int (iI (((slt S) : Nat) : Int))), (3, .ref (ad 0 j)), (0, .ref (ad 6 0)), (1, .int (iI ((j : Nat) : Int))), (2, .ref q)] → W P_ l e_ (gR 4 0 0) s M_ ([.ref (ad 6 0), .int (iI ((j : Nat) : Int)), .ref q] : List Value).toArray bl mt_ c_ H locs 0 0 (MQ bl (gQv (gW (gN S) ad s.heap) (fun H1 => GP E ad (sOne (sHead S j) j) H1)) ([.ref (ad 6 0), .int (iI ((j : Nat) : Int)), .ref q] : List Value).toArray s 0 0 (gW (gN S) ad s.heap)) (F0 M_ 128 ls [])) := by
      intro H locs ls hk hP hS hq hl
      have hl : lv_has ls 6 [(4, .int (iI (((slt S) : Nat) : Int))), (3, .ref (ad 0 j)), (0, .ref (ad 6 0)), (1, .int (iI ((j : Nat) : Int))), (2, .ref q)] := hl
      have hj : j < gN (sHead S j) := by rw [hd.n]; exact hjS
      have hnh : gN (sHead S j) = gN S := hd.n
      have hbj := hb2 j hj
      have eg : grn (sHead S j) j = grn S j := by funext p; exact dy_grn hd j p
      have hq : ce E q (aI E (gNp (sHead S j) j) (grn (sHead S j) j)) H := by rw [hd.np, eg]; exact hq
      have hg : ∀ i, i < gNp (sHead S j) j → 0 ≤ grn (sHead S j) j i ∧ grn (sHead S j) j i ≤ 1000 := by rw [hd.np, eg]; exact hg0
      have hnw2 := hI2.1.2.2
      have hz139 := bZ_le (rgn (sHead S j) j (grn (sHead S j) j) 0 (gNow (sHead S j)))
      refine g_aload_n X dX1_step_128 rfl hl 1 rfl ?_
      refine g_aload_n X dX1_step_129 rfl hl 1 rfl ?_
      refine g_iconst X dX1_step_130 ?_
      refine g_aload_n X dX1_step_131 rfl hl 2 rfl ?_
      refine g_get X hk (v := .int (iI (gNow (sHead S j)))) in_X1 rfl (GP.X hP) 2 (by decide) q144 (rfl) dX1_step_132 ?_
      refine g_aload_n X dX1_step_135 rfl hl 4 rfl ?_
      refine g_pV X hk (As := [.int (iI 0), .int (iI (gNow (sHead S j))), .ref q]) (rest := [.ref (ad 0 j)]) rfl (GP.J hP hj) (p_runsGreen l E ad (sHead S j) H hP hI2 j hj 0 (gNow (sHead S j)) (by omega) q (grn (sHead S j) j) hq hg) 3 (lw_V q529 q530 q531 q47 q532) (by decide +kernel) ⟨⟨Nat.le_of_ble_eq_true rfl, Nat.le_of_ble_eq_true rfl⟩, Nat.le_of_ble_eq_true rfl, Nat.le_of_ble_eq_true rfl⟩ rfl rfl hl.1 (Nat.le_of_ble_eq_true rfl) dX1_step_136 ?_
      have join_156 : gHide (∀ (z : Int) (ls : Array Slot), z = (if (rgn (sHead S j) j (grn (sHead S j) j) 0 (gNow (sHead S j))) = true then min 2 (gRdy (sHead S j) j + 1) else 0) → lv_has ls 6 [(4, .int (iI (((slt S) : Nat) : Int))), (3, .ref (ad 0 j)), (0, .ref (ad 6 0)), (1, .int (iI ((j : Nat) : Int))), (2, .ref q)] → W P_ l e_ (gR 4 0 0) s M_ ([.ref (ad 6 0), .int (iI ((j : Nat) : Int)), .ref q] : List Value).toArray bl mt_ c_ H locs 0 0 (MQ bl (gQv (gW (gN S) ad s.heap) (fun H1 => GP E ad (sOne (sHead S j) j) H1)) ([.ref (ad 6 0), .int (iI ((j : Nat) : Int)), .ref q] : List Value).toArray s 0 0 (gW (gN S) ad s.heap)) (F0 M_ 156 ls [.int (iI z), .ref (ad 0 j)])) := by
        intro z ls e_z hl
        subst e_z
        have hl : lv_has ls 6 [(4, .int (iI (((slt S) : Nat) : Int))), (3, .ref (ad 0 j)), (0, .ref (ad 6 0)), (1, .int (iI ((j : Nat) : Int))), (2, .ref q)] := hl
        refine g_putN X hk hS ⟨Or.inl ⟨0, j, gv_0 (by decide) (by omega), rfl⟩, hP.2.2 _ _ (gv_0 (by decide) hj)⟩ in_X2 tyX2 tyX2_ok nmX2 rfl (GP.J hP hj) 11 (by decide) 11 rfl rfl (ty := .int) (by decide +kernel) rfl rfl (Nat.le_of_ble_eq_true rfl) dX1_step_156 (fun H locs hc_ hk hz_ ho_ hS => ?_)
        have hP : GP E ad (gset (sHead S j) 21 j 0 (if (rgn (sHead S j) j (grn (sHead S j) j) 0 (gNow (sHead S j))) = true then min 2 (gRdy (sHead S j) j + 1) else 0)) H := GP.putJ hP hj 11 rfl hc_ ho_
        have hq := hq.kept (ho_ _ (fun e => hqA _ _ (gv_0 (by decide) (by omega)) e.symm))
        obtain ⟨U, eU⟩ : ∃ U_ : GS, U_ = sR (sHead S j) j (rgn (sHead S j) j (grn (sHead S j) j) 0 (gNow (sHead S j))) := ⟨_, rfl⟩
        have hP : GP E ad U H := by rw [eU]; exact hP
        have hnU : gN U = gN S := by rw [eU]; exact hnh
        have hj : j < gN U := by rw [hnU, ← hnh]; exact hj
        have eO : sOne (sHead S j) j = sL U j := by rw [eU]; rfl
        have hrU : gRdy U j = (if (rgn (sHead S j) j (grn (sHead S j) j) 0 (gNow (sHead S j))) = true then min 2 (gRdy (sHead S j) j + 1) else 0) := by rw [eU]; exact gset_s _ 21 j 0 _
        have hrU2 : 0 ≤ gRdy U j ∧ gRdy U j ≤ 2 := by rw [hrU]; split <;> omega
        have hqU : ∀ i, i < gN S → 0 ≤ gQue U i ∧ gQue U i ≤ 7300 := fun i hi => by rw [eU]; exact (hb2 i (by omega)).1
        have htU : j + 1 < gN S → 0 ≤ gTrv U j ∧ gTrv U j ≤ 40 := fun hi => by rw [eU]; exact (hb2 j (by omega)).2.2 (by omega)
        have hroU : 1 ≤ gRoo U j ∧ gRoo U j ≤ 40 := by rw [eU]; exact (hI2.2.2 j (by omega)).2.2.2.2.2.2.1
        have hnwU : 0 ≤ gNow U ∧ gNow U ≤ 7200 := by rw [eU]; exact hnw2
        have hlkU : 1 ≤ gLnk U j ∧ gLnk U j ≤ 60 := by rw [eU]; exact (hI2.2.2 j (by omega)).2.2.2.2.2.1
        have hqUj := hqU j (by omega)
        refine g_iload_n X dX1_step_159 rfl hl 3 rfl ?_
        have join_175 : gHide (∀ (z : Int) (ls : Array Slot), z = (bZ (decide (j + 1 = gN U))) → lv_has ls 6 [(4, .int (iI (((slt S) : Nat) : Int))), (3, .ref (ad 0 j)), (0, .ref (ad 6 0)), (1, .int (iI ((j : Nat) : Int))), (2, .ref q)] → W P_ l e_ (gR 4 0 0) s M_ ([.ref (ad 6 0), .int (iI ((j : Nat) : Int)), .ref q] : List Value).toArray bl mt_ c_ H locs 0 0 (MQ bl (gQv (gW (gN S) ad s.heap) (fun H1 => GP E ad (sOne (sHead S j) j) H1)) ([.ref (ad 6 0), .int (iI ((j : Nat) : Int)), .ref q] : List Value).toArray s 0 0 (gW (gN S) ad s.heap)) (F0 M_ 175 ls [.int (iI z)])) := by
          intro z ls e_z hl
          subst e_z
          have hl : lv_has ls 6 [(4, .int (iI (((slt S) : Nat) : Int))), (3, .ref (ad 0 j)), (0, .ref (ad 6 0)), (1, .int (iI ((j : Nat) : Int))), (2, .ref q)] := hl
          have hz175 := bZ_le (decide (j + 1 = gN U))
          refine g_istore (lv' := [(5, .int (iI (bZ (decide (j + 1 = gN U))))), (4, .int (iI (((slt S) : Nat) : Int))), (3, .ref (ad 0 j)), (0, .ref (ad 6 0)), (1, .int (iI ((j : Nat) : Int))), (2, .ref q)]) X dX1_step_175 hl (by decide) rfl (fun ls hl => ?_)
          refine g_aload_n X dX1_step_177 rfl hl 2 rfl ?_
          have join_209 : gHide (∀ (ls : Array Slot), (gRdy U j = 2 ∧ 0 < gQue U j ∧ (j + 1 = gN U ∨ gTrv U j + gQue U (j + 1) < gRoo U j)) → lv_has ls 6 [(5, .int (iI (bZ (decide (j + 1 = gN U))))), (4, .int (iI (((slt S) : Nat) : Int))), (3, .ref (ad 0 j)), (0, .ref (ad 6 0)), (1, .int (iI ((j : Nat) : Int))), (2, .ref q)] → W P_ l e_ (gR 4 0 0) s M_ ([.ref (ad 6 0), .int (iI ((j : Nat) : Int)), .ref q] : List Value).toArray bl mt_ c_ H locs 0 0 (MQ bl (gQv (gW (gN S) ad s.heap) (fun H1 => GP E ad (sOne (sHead S j) j) H1)) ([.ref (ad 6 0), .int (iI ((j : Nat) : Int)), .ref q] : List Value).toArray s 0 0 (gW (gN S) ad s.heap)) (F0 M_ 209 ls [])) := by
            intro ls hgo hl
            have hl : lv_has ls 6 [(5, .int (iI (bZ (decide (j + 1 = gN U))))), (4, .int (iI (((slt S) : Nat) : Int))), (3, .ref (ad 0 j)), (0, .ref (ad 6 0)), (1, .int (iI ((j : Nat) : Int))), (2, .ref q)] := hl
            refine g_aload_n X dX1_step_209 rfl hl 2 rfl ?_
            refine g_dup X dX1_step_210 rfl ?_
            refine g_getN X hk (v := .int (iI (gQue U j))) (host := "Greenwave") in_X2 rfl (GP.J hP hj) 9 (by decide) 9 rfl (rfl) dX1_step_211 ?_
            refine g_iconst X dX1_step_214 ?_
            refine g_isub X dX1_step_215 ?_
            refine g_putN X hk hS ⟨Or.inl ⟨0, j, gv_0 (by decide) (by omega), rfl⟩, hP.2.2 _ _ (gv_0 (by decide) hj)⟩ in_X2 tyX2 tyX2_ok nmX2 rfl (GP.J hP hj) 9 (by decide) 9 rfl rfl (ty := .int) (by decide +kernel) rfl rfl (Nat.le_of_ble_eq_true rfl) dX1_step_216 (fun H locs hc_ hk hz_ ho_ hS => ?_)
            have hP : GP E ad (gset U 19 j 0 ((gQue U j) - 1)) H := GP.putJ hP hj 9 rfl hc_ ho_
            refine g_aload_n X dX1_step_219 rfl hl 2 rfl ?_
            refine g_iconst X dX1_step_220 ?_
            refine g_putN X hk hS ⟨Or.inl ⟨0, j, gv_0 (by decide) (by omega), rfl⟩, hP.2.2 _ _ (gv_0 (by decide) hj)⟩ in_X2 tyX2 tyX2_ok nmX2 rfl (GP.J hP hj) 11 (by decide) 11 rfl rfl (ty := .int) (by decide +kernel) rfl rfl (Nat.le_of_ble_eq_true rfl) dX1_step_221 (fun H locs hc_ hk hz_ ho_ hS => ?_)
            have hP : GP E ad (gset (gset U 19 j 0 ((gQue U j) - 1)) 21 j 0 0) H := GP.putJ hP hj 11 rfl hc_ ho_
            refine g_iload X dX1_step_224 hl 0 rfl ?_
            refine g_if_eq X dX1_step_226 (tgt := 242) (by decide) (by omega) (fun c226 => ?_) (fun c226 => ?_)
            · have hjn : j + 1 < gN S := by grind [bZ]
              refine g_aload_n X dX1_step_242 rfl hl 2 rfl ?_
              refine g_dup X dX1_step_243 rfl ?_
              refine g_getN X hk (v := .int (iI (gTrv U j))) (host := "Greenwave") in_X2 rfl (GP.J hP hj) 12 (by decide) 12 rfl (rfl) dX1_step_244 ?_
              refine g_iconst X dX1_step_247 ?_
              refine g_iadd X dX1_step_248 ?_
              refine g_putN X hk hS ⟨Or.inl ⟨0, j, gv_0 (by decide) (by omega), rfl⟩, hP.2.2 _ _ (gv_0 (by decide) hj)⟩ in_X2 tyX2 tyX2_ok nmX2 rfl (GP.J hP hj) 12 (by decide) 12 rfl rfl (ty := .int) (by decide +kernel) rfl rfl (Nat.le_of_ble_eq_true rfl) dX1_step_249 (fun H locs hc_ hk hz_ ho_ hS => ?_)
              have hP : GP E ad (gset (gset (gset U 19 j 0 ((gQue U j) - 1)) 21 j 0 0) 22 j 0 ((gTrv U j) + 1)) H := GP.putJ hP hj 12 rfl hc_ ho_
              refine g_aload_n X dX1_step_252 rfl hl 3 rfl ?_
              refine g_get X hk (v := .ref (ad 7 0)) in_X1 rfl (GP.X hP) 0 (by decide) q142 (rfl) dX1_step_253 ?_
              refine g_iload_n X dX1_step_256 rfl hl 4 rfl ?_
              refine g_iconst X dX1_step_257 ?_
              refine g_iadd X dX1_step_258 ?_
              refine g_aald X hk (j := (j + 1)) (n := (gN U)) (q := (ad 0 (j + 1))) (GP.Q (S := (gset (gset (gset U 19 j 0 ((gQue U j) - 1)) 21 j 0 0) 22 j 0 ((gTrv U j) + 1))) hP) (cA := 1) rfl rfl (by omega) (by omega) (rfl) dX1_step_259 ?_
              refine g_getN X hk (v := .ref (ad 5 (j + 1))) (host := "Greenwave") in_X2 rfl (GP.J hP (show j + 1 < gN U by omega)) 13 (by decide) 13 rfl (rfl) dX1_step_260 ?_
              refine g_aload_n X dX1_step_263 rfl hl 3 rfl ?_
              refine g_get X hk (v := .int (iI (gNow U))) in_X1 rfl (GP.X hP) 2 (by decide) q144 (rfl) dX1_step_264 ?_
              refine g_aload_n X dX1_step_267 rfl hl 2 rfl ?_
              refine g_getN X hk (v := .int (iI (gLnk U j))) (host := "Greenwave") in_X2 rfl (GP.J hP hj) 5 (by decide) 5 rfl (rfl) dX1_step_268 ?_
              refine g_iadd X dX1_step_271 ?_
              refine g_bipush X dX1_step_272 rfl ?_
              refine g_iremN X dX1_step_274 (by omega) ?_
              rw [show (gNow U + gLnk U j) % 61 = ((sl2 U j : Nat) : Int) by unfold sl2; omega]
              refine g_dup2 X dX1_step_275 rfl rfl ?_
              refine g_ialdv X hk (j := (sl2 U j)) (n := 61) (f := (gCom (gset (gset (gset U 19 j 0 ((gQue U j) - 1)) 21 j 0 0) 22 j 0 ((gTrv U j) + 1)) (j + 1))) (v := ((gCom (gset (gset (gset U 19 j 0 ((gQue U j) - 1)) 21 j 0 0) 22 j 0 ((gTrv U j) + 1)) (j + 1)) (sl2 U j))) (GP.M (S := (gset (gset (gset U 19 j 0 ((gQue U j) - 1)) 21 j 0 0) 22 j 0 ((gTrv U j) + 1))) hP (show j + 1 < gN U by omega)) (by omega) (⟨by unfold sl2; omega, by omega⟩) (rfl) dX1_step_276 ?_
              refine g_iconst X dX1_step_277 ?_
              refine g_iadd X dX1_step_278 ?_
              refine g_iast X hk hS ⟨Or.inl ⟨5, (j + 1), gv_0 (by decide) (by omega), rfl⟩, hP.2.2 _ _ (gv_0 (by decide) (show j + 1 < gN U by omega))⟩ (j := (sl2 U j)) (n := 61) (f := (gCom (gset (gset (gset U 19 j 0 ((gQue U j) - 1)) 21 j 0 0) 22 j 0 ((gTrv U j) + 1)) (j + 1))) (GP.M (S := (gset (gset (gset U 19 j 0 ((gQue U j) - 1)) 21 j 0 0) 22 j 0 ((gTrv U j) + 1))) hP (show j + 1 < gN U by omega)) (by omega) (⟨by unfold sl2; omega, by omega⟩) dX1_step_279 (fun H locs hc_ hk hz_ ho_ hS => ?_)
              have hP : GP E ad (gset (gset (gset (gset U 19 j 0 ((gQue U j) - 1)) 21 j 0 0) 22 j 0 ((gTrv U j) + 1)) 5 (j + 1) (sl2 U j) (((gCom (gset (gset (gset U 19 j 0 ((gQue U j) - 1)) 21 j 0 0) 22 j 0 ((gTrv U j) + 1)) (j + 1)) (sl2 U j)) + 1)) H := GP.ast hP (show j + 1 < gN U by omega) 5 (by decide) (by decide) hc_ ho_
              exact g_vret X hS (by rw [eO, sL_go (by grind [bZ]) (by grind [bZ])]; exact hP) ⟨Nat.le_of_ble_eq_true rfl, Nat.le_of_ble_eq_true rfl⟩ dX1_step_280
            · refine g_aload_n X dX1_step_229 rfl hl 3 rfl ?_
              refine g_dup X dX1_step_230 rfl ?_
              refine g_get X hk (v := .int (iI (gLef U))) in_X1 rfl (GP.X hP) 5 (by decide) q147 (rfl) dX1_step_231 ?_
              refine g_iconst X dX1_step_234 ?_
              refine g_iadd X dX1_step_235 ?_
              refine g_put X hk hS ⟨Or.inl ⟨6, 0, gv_6, rfl⟩, hP.2.2 _ _ gv_6⟩ in_X1 tyX1 tyX1_ok nmX1 rfl (GP.X hP) 5 (by decide) q147 rfl (ty := .int) (by decide +kernel) (rfl) rfl (Nat.le_of_ble_eq_true rfl) dX1_step_236 (fun H locs hc_ hk hz_ ho_ hS => ?_)
              have hP : GP E ad (gset (gset (gset U 19 j 0 ((gQue U j) - 1)) 21 j 0 0) 35 0 0 ((gLef U) + 1)) H := GP.putX hP 5 rfl hc_ ho_
              refine g_goto X dX1_step_239 (tgt := 280) (by decide) ?_
              exact g_vret X hS (by rw [eO, sL_last (by grind [bZ]) (by grind [bZ])]; exact hP) ⟨Nat.le_of_ble_eq_true rfl, Nat.le_of_ble_eq_true rfl⟩ dX1_step_280
          refine g_getN X hk (v := .int (iI (gRdy U j))) (host := "Greenwave") in_X2 rfl (GP.J hP hj) 11 (by decide) 11 rfl (rfl) dX1_step_178 ?_
          refine g_iconst X dX1_step_181 ?_
          refine g_icmp_ne X dX1_step_182 (tgt := 280) (by decide) (by omega) (fun c182 => ?_) (fun c182 => ?_)
          · exact g_vret X hS (by rw [eO, sL_no (by grind [bZ])]; exact hP) ⟨Nat.le_of_ble_eq_true rfl, Nat.le_of_ble_eq_true rfl⟩ dX1_step_280
          · refine g_aload_n X dX1_step_185 rfl hl 2 rfl ?_
            refine g_getN X hk (v := .int (iI (gQue U j))) (host := "Greenwave") in_X2 rfl (GP.J hP hj) 9 (by decide) 9 rfl (rfl) dX1_step_186 ?_
            refine g_if_le X dX1_step_189 (tgt := 280) (by decide) (by omega) (fun c189 => ?_) (fun c189 => ?_)
            · exact g_vret X hS (by rw [eO, sL_no (by grind [bZ])]; exact hP) ⟨Nat.le_of_ble_eq_true rfl, Nat.le_of_ble_eq_true rfl⟩ dX1_step_280
            · refine g_iload X dX1_step_192 hl 0 rfl ?_
              refine g_if_ne X dX1_step_194 (tgt := 209) (by decide) (by omega) (fun c194 => ?_) (fun c194 => ?_)
              · exact join_209.out _ (by grind [bZ]) (lv_sub hl [0, 1, 2, 3, 4, 5] rfl)
              · have hjn : j + 1 < gN S := by grind [bZ]
                have hqU1 := hqU (j + 1) hjn
                have htU1 := htU hjn
                refine g_aload_n X dX1_step_197 rfl hl 3 rfl ?_
                refine g_iload_n X dX1_step_198 rfl hl 4 rfl ?_
                refine g_pV X hk (As := [.int (iI ((j : Nat) : Int))]) (rest := []) rfl (GP.X hP) (p_heldBehind l E ad U H hP (by omega) j (by omega)) 1 (lw_V q542 q544 qs13 q46 q545) (by decide +kernel) ⟨⟨Nat.le_of_ble_eq_true rfl, Nat.le_of_ble_eq_true rfl⟩, Nat.le_of_ble_eq_true rfl, Nat.le_of_ble_eq_true rfl⟩ rfl rfl hl.1 (Nat.le_of_ble_eq_true rfl) dX1_step_199 ?_
                refine g_aload_n X dX1_step_202 rfl hl 2 rfl ?_
                refine g_getN X hk (v := .int (iI (gRoo U j))) (host := "Greenwave") in_X2 rfl (GP.J hP hj) 6 (by decide) 6 rfl (rfl) dX1_step_203 ?_
                refine g_icmp_ge X dX1_step_206 (tgt := 280) (by decide) (by omega) (fun c206 => ?_) (fun c206 => ?_)
                · exact g_vret X hS (by rw [eO, sL_no (by grind [bZ])]; exact hP) ⟨Nat.le_of_ble_eq_true rfl, Nat.le_of_ble_eq_true rfl⟩ dX1_step_280
                · exact join_209.out _ (by grind [bZ]) (lv_sub hl [0, 1, 2, 3, 4, 5] rfl)
        refine g_aload_n X dX1_step_160 rfl hl 2 rfl ?_
        refine g_get X hk (v := .ref (ad 7 0)) in_X1 rfl (GP.X hP) 0 (by decide) q142 (rfl) dX1_step_161 ?_
        refine g_alenQ X hk (n := (gN U)) (GP.Q hP) rfl dX1_step_164 ?_
        refine g_iconst X dX1_step_165 ?_
        refine g_isub X dX1_step_166 ?_
        refine g_icmp_ne X dX1_step_167 (tgt := 174) (by decide) (by omega) (fun c167 => ?_) (fun c167 => ?_)
        · refine g_iconst X dX1_step_174 ?_
          exact join_175.out 0 _ (by grind [bZ]) (lv_sub hl [0, 1, 2, 3, 4] rfl)
        · refine g_iconst X dX1_step_170 ?_
          refine g_goto X dX1_step_171 (tgt := 175) (by decide) ?_
          exact join_175.out 1 _ (by grind [bZ]) (lv_sub hl [0, 1, 2, 3, 4] rfl)
      refine g_if_eq X dX1_step_139 (tgt := 155) (by decide) (by omega) (fun c139 => ?_) (fun c139 => ?_)
      · refine g_iconst X dX1_step_155 ?_
        exact join_156.out 0 _ (by grind [bZ]) (lv_sub hl [0, 1, 2, 3, 4] rfl)
      · refine g_iconst X dX1_step_142 ?_
        refine g_aload_n X dX1_step_143 rfl hl 1 rfl ?_
        refine g_getN X hk (v := .int (iI (gRdy (sHead S j) j))) (host := "Greenwave") in_X2 rfl (GP.J hP hj) 11 (by decide) 11 rfl (rfl) dX1_step_144 ?_
        refine g_iconst X dX1_step_147 ?_
        refine g_iadd X dX1_step_148 ?_
        refine g_pS X hk (As := [.int (iI 2), .int (iI ((gRdy (sHead S j) j) + 1))]) (rest := [.ref (ad 0 j)]) (p_min l E 2 ((gRdy (sHead S j) j) + 1) H (by omega) (by omega)) 2 (lw_S q539 q540 q57 q541) (by decide +kernel) ⟨⟨Nat.le_of_ble_eq_true rfl, Nat.le_of_ble_eq_true rfl⟩, Nat.le_of_ble_eq_true rfl, Nat.le_of_ble_eq_true rfl⟩ rfl rfl hl.1 (Nat.le_of_ble_eq_true rfl) dX1_step_149 ?_
        refine g_goto X dX1_step_152 (tgt := 156) (by decide) ?_
        exact join_156.out (min 2 ((gRdy (sHead S j) j) + 1)) _ (by grind [bZ]) (lv_sub hl [0, 1, 2, 3, 4] rfl)
    have hP : GP E ad (sJ S j) H := by rw [← sJ0_s]; exact hP
    have hj : j < gN (sJ S j) := by rw [hdj.n]; exact hjS
    refine g_iload_n X dX1_step_67 rfl hl 3 rfl ?_
    refine g_if_ne X dX1_step_68 (tgt := 128) (by decide) (by omega) (fun c68 => ?_) (fun c68 => ?_)
    · exact join_128.out H locs _ hk (by first | (rw [head_ne (by omega)]; exact hP) | (rw [head_lo rfl (by omega) (by omega)]; exact hP) | (rw [head_hi rfl (by omega) (by omega)]; exact hP)) hS hq (lv_sub hl [0, 1, 2, 3, 4] rfl)
    · have h71 : j = 0 := by omega
      have har : 0 ≤ gArr (sJ S j) j ∧ gArr (sJ S j) j < 3600 := by subst h71; have h1 := hG.2.2.2.1.1.1.2.1; have e : gArr (sJ S 0) 0 = gArr S 0 := rfl; omega
      have hfl2 : 0 ≤ gFl (sJ S j) j 0 ∧ gFl (sJ S j) j 0 ≤ 1800 := by rw [show gFl (sJ S j) j = gFl S j from congrFun (hdj.2 2 rfl) j]; exact hfl
      refine g_aload_n X dX1_step_71 rfl hl 1 rfl ?_
      refine g_dup X dX1_step_72 rfl ?_
      refine g_getN X hk (v := .int (iI (gArr (sJ S j) j))) (host := "Greenwave") in_X2 rfl (GP.J hP hj) 10 (by decide) 10 rfl (rfl) dX1_step_73 ?_
      refine g_aload_n X dX1_step_76 rfl hl 1 rfl ?_
      refine g_getN X hk (v := .ref (ad 2 j)) (host := "Greenwave") in_X2 rfl (GP.J hP hj) 2 (by decide) 2 rfl (rfl) dX1_step_77 ?_
      refine g_iconst X dX1_step_80 ?_
      refine g_ialdv X hk (j := 0) (n := 4) (f := (gFl (sJ S j) j)) (v := ((gFl (sJ S j) j) 0)) (GP.F hP hj) (rfl) (by omega) (rfl) dX1_step_81 ?_
      refine g_iadd X dX1_step_82 ?_
      refine g_putN X hk hS ⟨Or.inl ⟨0, j, gv_0 (by decide) (by omega), rfl⟩, hP.2.2 _ _ (gv_0 (by decide) hj)⟩ in_X2 tyX2 tyX2_ok nmX2 rfl (GP.J hP hj) 10 (by decide) 10 rfl rfl (ty := .int) (by decide +kernel) rfl rfl (Nat.le_of_ble_eq_true rfl) dX1_step_83 (fun H locs hc_ hk hz_ ho_ hS => ?_)
      have hP : GP E ad (gset (sJ S j) 20 j 0 ((gArr (sJ S j) j) + ((gFl (sJ S j) j) 0))) H := GP.putJ hP hj 10 rfl hc_ ho_
      have hq := hq.kept (ho_ _ (fun e => hqA _ _ (gv_0 (by decide) (by omega)) e.symm))
      refine g_aload_n X dX1_step_86 rfl hl 1 rfl ?_
      refine g_getN X hk (v := .int (iI ((gArr (sJ S j) j) + ((gFl (sJ S j) j) 0)))) (host := "Greenwave") in_X2 rfl (GP.J hP hj) 10 (by decide) 10 rfl (sI ((gset_s _ _ _ _ _))) dX1_step_87 ?_
      refine g_sipush X dX1_step_90 rfl ?_
      refine g_icmp_lt X dX1_step_93 (tgt := 128) (by decide) (by omega) (fun c93 => ?_) (fun c93 => ?_)
      · exact join_128.out H locs _ hk (by first | (rw [head_ne (by omega)]; exact hP) | (rw [head_lo rfl (by omega) (by omega)]; exact hP) | (rw [head_hi rfl (by omega) (by omega)]; exact hP)) hS hq (lv_sub hl [0, 1, 2, 3, 4] rfl)
      · refine g_aload_n X dX1_step_96 rfl hl 1 rfl ?_
        refine g_dup X dX1_step_97 rfl ?_
        refine g_getN X hk (v := .int (iI ((gArr (sJ S j) j) + ((gFl (sJ S j) j) 0)))) (host := "Greenwave") in_X2 rfl (GP.J hP hj) 10 (by decide) 10 rfl (sI ((gset_s _ _ _ _ _))) dX1_step_98 ?_
        refine g_sipush X dX1_step_101 rfl ?_
        refine g_isub X dX1_step_104 ?_
        refine g_putN X hk hS ⟨Or.inl ⟨0, j, gv_0 (by decide) (by omega), rfl⟩, hP.2.2 _ _ (gv_0 (by decide) hj)⟩ in_X2 tyX2 tyX2_ok nmX2 rfl (GP.J hP hj) 10 (by decide) 10 rfl rfl (ty := .int) (by decide +kernel) rfl rfl (Nat.le_of_ble_eq_true rfl) dX1_step_105 (fun H locs hc_ hk hz_ ho_ hS => ?_)
        have hP : GP E ad (gset (gset (sJ S j) 20 j 0 ((gArr (sJ S j) j) + ((gFl (sJ S j) j) 0))) 20 j 0 (((gArr (sJ S j) j) + ((gFl (sJ S j) j) 0)) - 3600)) H := GP.putJ hP hj 10 rfl hc_ ho_
        have hq := hq.kept (ho_ _ (fun e => hqA _ _ (gv_0 (by decide) (by omega)) e.symm))
        refine g_aload_n X dX1_step_108 rfl hl 1 rfl ?_
        refine g_dup X dX1_step_109 rfl ?_
        refine g_getN X hk (v := .int (iI (gQue (sJ S j) j))) (host := "Greenwave") in_X2 rfl (GP.J hP hj) 9 (by decide) 9 rfl (rfl) dX1_step_110 ?_
        refine g_iconst X dX1_step_113 ?_
        refine g_iadd X dX1_step_114 ?_
        refine g_putN X hk hS ⟨Or.inl ⟨0, j, gv_0 (by decide) (by omega), rfl⟩, hP.2.2 _ _ (gv_0 (by decide) hj)⟩ in_X2 tyX2 tyX2_ok nmX2 rfl (GP.J hP hj) 9 (by decide) 9 rfl rfl (ty := .int) (by decide +kernel) rfl rfl (Nat.le_of_ble_eq_true rfl) dX1_step_115 (fun H locs hc_ hk hz_ ho_ hS => ?_)
        have hP : GP E ad (gset (gset (gset (sJ S j) 20 j 0 ((gArr (sJ S j) j) + ((gFl (sJ S j) j) 0))) 20 j 0 (((gArr (sJ S j) j) + ((gFl (sJ S j) j) 0)) - 3600)) 19 j 0 ((gQue (sJ S j) j) + 1)) H := GP.putJ hP hj 9 rfl hc_ ho_
        have hq := hq.kept (ho_ _ (fun e => hqA _ _ (gv_0 (by decide) (by omega)) e.symm))
        refine g_aload_n X dX1_step_118 rfl hl 2 rfl ?_
        refine g_dup X dX1_step_119 rfl ?_
        refine g_get X hk (v := .int (iI (gCam (sJ S j)))) in_X1 rfl (GP.X hP) 4 (by decide) q146 (rfl) dX1_step_120 ?_
        refine g_iconst X dX1_step_123 ?_
        refine g_iadd X dX1_step_124 ?_
        refine g_put X hk hS ⟨Or.inl ⟨6, 0, gv_6, rfl⟩, hP.2.2 _ _ gv_6⟩ in_X1 tyX1 tyX1_ok nmX1 rfl (GP.X hP) 4 (by decide) q146 rfl (ty := .int) (by decide +kernel) (rfl) rfl (Nat.le_of_ble_eq_true rfl) dX1_step_125 (fun H locs hc_ hk hz_ ho_ hS => ?_)
        have hP : GP E ad (gset (gset (gset (gset (sJ S j) 20 j 0 ((gArr (sJ S j) j) + ((gFl (sJ S j) j) 0))) 20 j 0 (((gArr (sJ S j) j) + ((gFl (sJ S j) j) 0)) - 3600)) 19 j 0 ((gQue (sJ S j) j) + 1)) 34 0 0 ((gCam (sJ S j)) + 1)) H := GP.putX hP 4 rfl hc_ ho_
        have hq := hq.kept (ho_ _ (fun e => hqA _ _ gv_6 e.symm))
        exact join_128.out H locs _ hk (by first | (rw [head_ne (by omega)]; exact hP) | (rw [head_lo rfl (by omega) (by omega)]; exact hP) | (rw [head_hi rfl (by omega) (by omega)]; exact hP)) hS hq (lv_sub hl [0, 1, 2, 3, 4] rfl)
  refine g_iload_n X dX1_step_32 rfl hl 3 rfl ?_
  refine g_if_le X dX1_step_33 (tgt := 59) (by decide) (by omega) (fun c33 => ?_) (fun c33 => ?_)
  · exact join_59.out H locs _ hk (by unfold sJ0; first | (rw [if_pos (by omega)]; exact hP) | (rw [if_neg (by omega)]; exact hP)) hS hq (lv_sub hl [0, 1, 2, 3, 4] rfl)
  · refine g_aload_n X dX1_step_36 rfl hl 2 rfl ?_
    refine g_get X hk (v := .ref (ad 7 0)) in_X1 rfl (GP.X hP) 0 (by decide) q142 (rfl) dX1_step_37 ?_
    refine g_iload_n X dX1_step_40 rfl hl 3 rfl ?_
    refine g_iconst X dX1_step_41 ?_
    refine g_isub X dX1_step_42 ?_
    refine g_aald X hk (j := (j - 1)) (n := (gN S)) (q := (ad 0 (j - 1))) (GP.Q (S := (gset S 19 j 0 ((gQue S j) + ((gCom S j) (slt S))))) hP) (cA := 1) rfl rfl (by omega) (by omega) (rfl) dX1_step_43 ?_
    refine g_dup X dX1_step_44 rfl ?_
    refine g_getN X hk (v := .int (iI (gTrv S (j - 1)))) (host := "Greenwave") in_X2 rfl (GP.J hP (show j - 1 < gN S by omega)) 12 (by decide) 12 rfl (rfl) dX1_step_45 ?_
    refine g_aload_n X dX1_step_48 rfl hl 1 rfl ?_
    refine g_getN X hk (v := .ref (ad 5 j)) (host := "Greenwave") in_X2 rfl (GP.J hP hj) 13 (by decide) 13 rfl (rfl) dX1_step_49 ?_
    refine g_iload X dX1_step_52 hl 0 rfl ?_
    refine g_ialdv X hk (j := (slt S)) (n := 61) (f := (gCom (gset S 19 j 0 ((gQue S j) + ((gCom S j) (slt S)))) j)) (v := (gCom S j (slt S))) (GP.M (S := (gset S 19 j 0 ((gQue S j) + ((gCom S j) (slt S))))) hP hj) (rfl) (⟨by unfold slt; omega, by omega⟩) (rfl) dX1_step_54 ?_
    refine g_isub X dX1_step_55 ?_
    refine g_putN X hk hS ⟨Or.inl ⟨0, (j - 1), gv_0 (by decide) (by omega), rfl⟩, hP.2.2 _ _ (gv_0 (by decide) (show j - 1 < gN S by omega))⟩ in_X2 tyX2 tyX2_ok nmX2 rfl (GP.J hP (show j - 1 < gN S by omega)) 12 (by decide) 12 rfl rfl (ty := .int) (by decide +kernel) rfl rfl (Nat.le_of_ble_eq_true rfl) dX1_step_56 (fun H locs hc_ hk hz_ ho_ hS => ?_)
    have hP : GP E ad (gset (gset S 19 j 0 ((gQue S j) + ((gCom S j) (slt S)))) 22 (j - 1) 0 ((gTrv S (j - 1)) - (gCom S j (slt S)))) H := GP.putJ hP (show j - 1 < gN S by omega) 12 rfl hc_ ho_
    have hq := hq.kept (ho_ _ (fun e => hqA _ _ (gv_0 (by decide) (by omega)) e.symm))
    exact join_59.out H locs _ hk (by unfold sJ0; first | (rw [if_pos (by omega)]; exact hP) | (rw [if_neg (by omega)]; exact hP)) hS hq (lv_sub hl [0, 1, 2, 3, 4] rfl)
