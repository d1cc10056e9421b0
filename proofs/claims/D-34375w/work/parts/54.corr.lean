/-! the corridor: who may be asked for -/
set_option maxHeartbeats 4000000 in
theorem p_junctionAt (l : Launch) (E : EP) (hst : l.stackTraces = false) (ad : Nat → Nat → Nat) (S : GS) (j : Int) (H : Heap) (hP : GP E ad S H) (hI : gI S) (hj : -2147483648 ≤ j ∧ j ≤ 2147483647) : gCr l E yX1_junctionAt cX1_junctionAt 2 (FieldType.object "Greenwave$Junction") 7 1 6 H [.ref (ad 6 0), .int (iI j)] (nA H) (fun q H1 => (0 ≤ j ∧ j ≤ (gN S : Int) - 1) ∧ q = ad 0 j.toNat ∧ H1 = H) (xC (erJ S j) [nIx]) := by
  refine g_metX (by decide) (Nat.le_of_ble_eq_true rfl) (fun P_ e_ s M_ bl mt_ c_ ls X hno_ hk hh hl => ?_)
  subst hh
  have X : gX P_ s M_ mt_ c_ cX1_junctionAt 2 ([.ref (ad 6 0), .int (iI j)] : List Value).toArray RX1 (some (FieldType.object "Greenwave$Junction")) := X
  have hl : lv_has ls 2 [(0, .ref (ad 6 0)), (1, .int (iI j))] := hl
  have hS : va_S (nA s.heap) s.heap s.heap [] := va_S.rf
  have hN0 : eN E ≤ s.heap.size := hk.N
  have hA0_ := GP.lts hP
  have hn5 := hI.1.1
  have hc := hI.2.1
  refine g_iload_n X dX1_junctionAt_0 rfl hl 1 rfl ?_
  refine g_iconst X dX1_junctionAt_1 ?_
  refine g_aload_n X dX1_junctionAt_2 rfl hl 0 rfl ?_
  refine g_get X hk (v := .ref (ad 7 0)) in_X1 rfl (GP.X hP) 0 (by decide) q142 (rfl) dX1_junctionAt_3 ?_
  refine g_alenQ X hk (n := (gN S)) (GP.Q hP) rfl dX1_junctionAt_6 ?_
  refine g_iconst X dX1_junctionAt_7 ?_
  refine g_isub X dX1_junctionAt_8 ?_
  refine g_pS X hk (As := [.int (iI j), .int (iI 0), .int (iI ((((gN S) : Nat) : Int) - 1))]) (rest := []) (p_inRange l E j 0 ((((gN S) : Nat) : Int) - 1) s.heap (by omega) (by omega) (by omega)) 3 (lw_S q185 q186 q46 q187) (by decide +kernel) ⟨⟨Nat.le_of_ble_eq_true rfl, Nat.le_of_ble_eq_true rfl⟩, Nat.le_of_ble_eq_true rfl, Nat.le_of_ble_eq_true rfl⟩ rfl rfl hl.1 (Nat.le_of_ble_eq_true rfl) dX1_junctionAt_9 ?_
  have h12 := bZ_le (decide (0 ≤ j ∧ j ≤ (gN S : Int) - 1))
  refine (show (bZ (decide (0 ≤ j ∧ j ≤ ((((gN S) : Nat) : Int) - 1)))) = 0 ∨ (bZ (decide (0 ≤ j ∧ j ≤ ((((gN S) : Nat) : Int) - 1)))) = 1 by omega).elim (fun z12 => ?_) (fun z12 => ?_)
  · exact g_thxS X hno_ hk (As := [.int (iI (bZ (decide (0 ≤ j ∧ j ≤ ((((gN S) : Nat) : Int) - 1)))))]) (rest := []) (rq_Index_t l E hst s.heap (bZ (decide (0 ≤ j ∧ j ≤ ((((gN S) : Nat) : Int) - 1)))) z12) 1 (lw_S q305 q306 q46 q307) (by decide +kernel) ⟨⟨Nat.le_of_ble_eq_true rfl, Nat.le_of_ble_eq_true rfl⟩, Nat.le_of_ble_eq_true rfl, Nat.le_of_ble_eq_true rfl⟩ rfl rfl hl.1 (Nat.le_of_ble_eq_true rfl) dX1_junctionAt_12 hS (fun q h => h) (⟨0, by unfold erJ; grind [bZ], rfl⟩) ⟨Nat.le_of_ble_eq_true rfl, Nat.le_of_ble_eq_true rfl⟩
  refine g_callE (g_runS X hk (As := [.int (iI (bZ (decide (0 ≤ j ∧ j ≤ ((((gN S) : Nat) : Int) - 1)))))]) (rest := []) (rq_Index l E s.heap (bZ (decide (0 ≤ j ∧ j ≤ ((((gN S) : Nat) : Int) - 1)))) z12) 1 (lw_S q305 q306 q46 q307) (by decide +kernel) ⟨⟨Nat.le_of_ble_eq_true rfl, Nat.le_of_ble_eq_true rfl⟩, Nat.le_of_ble_eq_true rfl, Nat.le_of_ble_eq_true rfl⟩ rfl rfl hl.1 (Nat.le_of_ble_eq_true rfl) dX1_junctionAt_12) ?_
  have h15 : 0 ≤ j ∧ j ≤ (gN S : Int) - 1 := by grind [bZ]
  refine g_aload_n X dX1_junctionAt_15 rfl hl 0 rfl ?_
  refine g_get X hk (v := .ref (ad 7 0)) in_X1 rfl (GP.X hP) 0 (by decide) q142 (rfl) dX1_junctionAt_16 ?_
  refine g_iload_n X dX1_junctionAt_19 rfl hl 1 rfl ?_
  refine g_aald X hk (j := j.toNat) (n := (gN S)) (q := (ad 0 j.toNat)) (GP.Q hP) (cA := 1) rfl rfl (by omega) (by omega) (rfl) dX1_junctionAt_20 ?_
  exact vx_ret (g_aret X (Or.inl ⟨_, rfl⟩) hS (⟨h15, rfl, rfl⟩) ⟨Nat.le_of_ble_eq_true rfl, Nat.le_of_ble_eq_true rfl⟩ dX1_junctionAt_21)
set_option maxHeartbeats 4000000 in
theorem p_linkedAt (l : Launch) (E : EP) (hst : l.stackTraces = false) (ad : Nat → Nat → Nat) (S : GS) (j : Int) (H : Heap) (hP : GP E ad S H) (hI : gI S) (hj : -2147483648 ≤ j ∧ j ≤ 2147483647) : gCr l E yX1_linkedAt cX1_linkedAt 2 (FieldType.object "Greenwave$Junction") 7 1 6 H [.ref (ad 6 0), .int (iI j)] (nA H) (fun q H1 => (0 ≤ j ∧ j ≤ (gN S : Int) - 2) ∧ q = ad 0 j.toNat ∧ H1 = H) (xC (erH S j) [nIx]) := by
  refine g_metX (by decide) (Nat.le_of_ble_eq_true rfl) (fun P_ e_ s M_ bl mt_ c_ ls X hno_ hk hh hl => ?_)
  subst hh
  have X : gX P_ s M_ mt_ c_ cX1_linkedAt 2 ([.ref (ad 6 0), .int (iI j)] : List Value).toArray RX1 (some (FieldType.object "Greenwave$Junction")) := X
  have hl : lv_has ls 2 [(0, .ref (ad 6 0)), (1, .int (iI j))] := hl
  have hS : va_S (nA s.heap) s.heap s.heap [] := va_S.rf
  have hN0 : eN E ≤ s.heap.size := hk.N
  have hA0_ := GP.lts hP
  have hn5 := hI.1.1
  have hc := hI.2.1
  refine g_iload_n X dX1_linkedAt_0 rfl hl 1 rfl ?_
  refine g_iconst X dX1_linkedAt_1 ?_
  refine g_aload_n X dX1_linkedAt_2 rfl hl 0 rfl ?_
  refine g_get X hk (v := .ref (ad 7 0)) in_X1 rfl (GP.X hP) 0 (by decide) q142 (rfl) dX1_linkedAt_3 ?_
  refine g_alenQ X hk (n := (gN S)) (GP.Q hP) rfl dX1_linkedAt_6 ?_
  refine g_iconst X dX1_linkedAt_7 ?_
  refine g_isub X dX1_linkedAt_8 ?_
  refine g_pS X hk (As := [.int (iI j), .int (iI 0), .int (iI ((((gN S) : Nat) : Int) - 2))]) (rest := []) (p_inRange l E j 0 ((((gN S) : Nat) : Int) - 2) s.heap (by omega) (by omega) (by omega)) 3 (lw_S q185 q186 q46 q187) (by decide +kernel) ⟨⟨Nat.le_of_ble_eq_true rfl, Nat.le_of_ble_eq_true rfl⟩, Nat.le_of_ble_eq_true rfl, Nat.le_of_ble_eq_true rfl⟩ rfl rfl hl.1 (Nat.le_of_ble_eq_true rfl) dX1_linkedAt_9 ?_
  have h12 := bZ_le (decide (0 ≤ j ∧ j ≤ (gN S : Int) - 2))
  refine (show (bZ (decide (0 ≤ j ∧ j ≤ ((((gN S) : Nat) : Int) - 2)))) = 0 ∨ (bZ (decide (0 ≤ j ∧ j ≤ ((((gN S) : Nat) : Int) - 2)))) = 1 by omega).elim (fun z12 => ?_) (fun z12 => ?_)
  · exact g_thxS X hno_ hk (As := [.int (iI (bZ (decide (0 ≤ j ∧ j ≤ ((((gN S) : Nat) : Int) - 2)))))]) (rest := []) (rq_Index_t l E hst s.heap (bZ (decide (0 ≤ j ∧ j ≤ ((((gN S) : Nat) : Int) - 2)))) z12) 1 (lw_S q305 q306 q46 q307) (by decide +kernel) ⟨⟨Nat.le_of_ble_eq_true rfl, Nat.le_of_ble_eq_true rfl⟩, Nat.le_of_ble_eq_true rfl, Nat.le_of_ble_eq_true rfl⟩ rfl rfl hl.1 (Nat.le_of_ble_eq_true rfl) dX1_linkedAt_12 hS (fun q h => h) (⟨0, by unfold erH; grind [bZ], rfl⟩) ⟨Nat.le_of_ble_eq_true rfl, Nat.le_of_ble_eq_true rfl⟩
  refine g_callE (g_runS X hk (As := [.int (iI (bZ (decide (0 ≤ j ∧ j ≤ ((((gN S) : Nat) : Int) - 2)))))]) (rest := []) (rq_Index l E s.heap (bZ (decide (0 ≤ j ∧ j ≤ ((((gN S) : Nat) : Int) - 2)))) z12) 1 (lw_S q305 q306 q46 q307) (by decide +kernel) ⟨⟨Nat.le_of_ble_eq_true rfl, Nat.le_of_ble_eq_true rfl⟩, Nat.le_of_ble_eq_true rfl, Nat.le_of_ble_eq_true rfl⟩ rfl rfl hl.1 (Nat.le_of_ble_eq_true rfl) dX1_linkedAt_12) ?_
  have h15 : 0 ≤ j ∧ j ≤ (gN S : Int) - 2 := by grind [bZ]
  refine g_aload_n X dX1_linkedAt_15 rfl hl 0 rfl ?_
  refine g_get X hk (v := .ref (ad 7 0)) in_X1 rfl (GP.X hP) 0 (by decide) q142 (rfl) dX1_linkedAt_16 ?_
  refine g_iload_n X dX1_linkedAt_19 rfl hl 1 rfl ?_
  refine g_aald X hk (j := j.toNat) (n := (gN S)) (q := (ad 0 j.toNat)) (GP.Q hP) (cA := 1) rfl rfl (by omega) (by omega) (rfl) dX1_linkedAt_20 ?_
  exact vx_ret (g_aret X (Or.inl ⟨_, rfl⟩) hS (⟨h15, rfl, rfl⟩) ⟨Nat.le_of_ble_eq_true rfl, Nat.le_of_ble_eq_true rfl⟩ dX1_linkedAt_21)
set_option maxHeartbeats 4000000 in
theorem p_planned (l : Launch) (E : EP) (hst : l.stackTraces = false) (ad : Nat → Nat → Nat) (S : GS) (j : Int) (H : Heap) (hP : GP E ad S H) (hI : gI S) (hj : -2147483648 ≤ j ∧ j ≤ 2147483647) : gCr l E yX1_planned cX1_planned 3 (FieldType.object "Greenwave$Junction") 8 2 12 H [.ref (ad 6 0), .int (iI j)] (nA H) (fun q H1 => ((0 ≤ j ∧ j ≤ (gN S : Int) - 1) ∧ 0 ≤ lft S j.toNat) ∧ q = ad 0 j.toNat ∧ H1 = H) (xC (erN S j) [nIx, nSt]) := by
  refine g_metX (by decide) (Nat.le_of_ble_eq_true rfl) (fun P_ e_ s M_ bl mt_ c_ ls X hno_ hk hh hl => ?_)
  subst hh
  have X : gX P_ s M_ mt_ c_ cX1_planned 3 ([.ref (ad 6 0), .int (iI j)] : List Value).toArray RX1 (some (FieldType.object "Greenwave$Junction")) := X
  have hl : lv_has ls 3 [(0, .ref (ad 6 0)), (1, .int (iI j))] := hl
  have hS : va_S (nA s.heap) s.heap s.heap [] := va_S.rf
  have hN0 : eN E ≤ s.heap.size := hk.N
  have hA0_ := GP.lts hP
  have hn5 := hI.1.1
  have hc := hI.2.1
  refine g_aload_n X dX1_planned_0 rfl hl 0 rfl ?_
  refine g_iload_n X dX1_planned_1 rfl hl 1 rfl ?_
  refine g_xcallrE (g_xrunV X hk (As := [.int (iI j)]) (rest := []) rfl (GP.X hP) (p_junctionAt l E hst ad S j s.heap hP hI (by omega)) 1 (lw_V q301 q303 qs3 q46 q304) (by decide +kernel) ⟨⟨Nat.le_of_ble_eq_true rfl, Nat.le_of_ble_eq_true rfl⟩, Nat.le_of_ble_eq_true rfl, Nat.le_of_ble_eq_true rfl⟩ rfl rfl hl.1 (Nat.le_of_ble_eq_true rfl) dX1_planned_2) X hno_ hk hS (fun q h => Nat.le_trans hS.1 h) (fun q h => Nat.le_trans hk.N h) (fun q h => h) (fun Ex h => by obtain ⟨h1, rfl⟩ := h.one; exact ⟨0, by unfold erN; revert h1; unfold erJ; grind, rfl⟩) ⟨Nat.le_of_ble_eq_true rfl, Nat.le_of_ble_eq_true rfl⟩ (fun locs hB2 hS => ?_)
  have hj : (j).toNat < gN S := by omega
  refine g_astore_n (lv' := [(2, .ref (ad 0 ((j).toNat))), (0, .ref (ad 6 0)), (1, .int (iI j))]) X dX1_planned_5 rfl hl (by decide) rfl (fun ls hl => ?_)
  have join_18 : gHide (∀ (z : Int) (ls : Array Slot), z = (bZ (decide (0 ≤ lft S j.toNat))) → lv_has ls 3 [(2, .ref (ad 0 ((j).toNat))), (0, .ref (ad 6 0)), (1, .int (iI j))] → W P_ l e_ (gR 8 2 12) s M_ ([.ref (ad 6 0), .int (iI j)] : List Value).toArray bl mt_ c_ s.heap locs (0 + 1) (0 + 6) (vx_MQ bl (gQr (nA s.heap) (fun q H1 => ((0 ≤ j ∧ j ≤ (gN S : Int) - 1) ∧ 0 ≤ lft S j.toNat) ∧ q = ad 0 j.toNat ∧ H1 = s.heap)) (gXD (xC (erN S j) [nIx, nSt])) ([.ref (ad 6 0), .int (iI j)] : List Value).toArray s 2 12 (nA s.heap)) (F0 M_ 18 ls [.int (iI z)])) := by
    intro z ls e_z hl
    subst e_z
    have hl : lv_has ls 3 [(2, .ref (ad 0 ((j).toNat))), (0, .ref (ad 6 0)), (1, .int (iI j))] := hl
    have h18 := bZ_le (decide (0 ≤ lft S j.toNat))
    refine (show (bZ (decide (0 ≤ lft S j.toNat))) = 0 ∨ (bZ (decide (0 ≤ lft S j.toNat))) = 1 by omega).elim (fun z18 => ?_) (fun z18 => ?_)
    · exact g_thxS X hno_ hk (As := [.int (iI (bZ (decide (0 ≤ lft S j.toNat))))]) (rest := []) (rq_State_t l E hst s.heap (bZ (decide (0 ≤ lft S j.toNat))) z18) 1 (lw_S q326 q327 q46 q328) (by decide +kernel) ⟨⟨Nat.le_of_ble_eq_true rfl, Nat.le_of_ble_eq_true rfl⟩, Nat.le_of_ble_eq_true rfl, Nat.le_of_ble_eq_true rfl⟩ rfl rfl hl.1 (Nat.le_of_ble_eq_true rfl) dX1_planned_18 hS (fun q h => h) (⟨1, by unfold erN; grind [bZ], rfl⟩) ⟨Nat.le_of_ble_eq_true rfl, Nat.le_of_ble_eq_true rfl⟩
    refine g_callE (g_runS X hk (As := [.int (iI (bZ (decide (0 ≤ lft S j.toNat))))]) (rest := []) (rq_State l E s.heap (bZ (decide (0 ≤ lft S j.toNat))) z18) 1 (lw_S q326 q327 q46 q328) (by decide +kernel) ⟨⟨Nat.le_of_ble_eq_true rfl, Nat.le_of_ble_eq_true rfl⟩, Nat.le_of_ble_eq_true rfl, Nat.le_of_ble_eq_true rfl⟩ rfl rfl hl.1 (Nat.le_of_ble_eq_true rfl) dX1_planned_18) ?_
    refine g_aload_n X dX1_planned_21 rfl hl 0 rfl ?_
    exact vx_ret (g_aret X (Or.inl ⟨_, rfl⟩) hS (⟨⟨hB2, by grind [bZ]⟩, rfl, rfl⟩) ⟨Nat.le_of_ble_eq_true rfl, Nat.le_of_ble_eq_true rfl⟩ dX1_planned_22)
  refine g_aload_n X dX1_planned_6 rfl hl 0 rfl ?_
  refine g_pV X hk (As := []) (rest := []) rfl (GP.J hP hj) (p_left l E ad S s.heap hP hI ((j).toNat) hj) 0 (lw_V q396 q397 q398 q47 q399) (by decide +kernel) ⟨⟨Nat.le_of_ble_eq_true rfl, Nat.le_of_ble_eq_true rfl⟩, Nat.le_of_ble_eq_true rfl, Nat.le_of_ble_eq_true rfl⟩ rfl rfl hl.1 (Nat.le_of_ble_eq_true rfl) dX1_planned_7 ?_
  have h10 := lft_b hI hj
  refine g_if_lt X dX1_planned_10 (tgt := 17) (by decide) (by omega) (fun c10 => ?_) (fun c10 => ?_)
  · refine g_iconst X dX1_planned_17 ?_
    exact join_18.out 0 _ (by grind [bZ]) (lv_sub hl [0, 1, 2] rfl)
  · refine g_iconst X dX1_planned_13 ?_
    refine g_goto X dX1_planned_14 (tgt := 18) (by decide) ?_
    exact join_18.out 1 _ (by grind [bZ]) (lv_sub hl [0, 1, 2] rfl)
/-- all of some movements are movements -/
def alV (f : Nat → Int) : Nat → Bool
  | 0 => true
  | k + 1 => alV f k && decide (0 ≤ f k ∧ f k ≤ 3)
theorem alV_f {f : Nat → Int} {k : Nat} (h : ¬ (0 ≤ f k ∧ f k ≤ 3)) : ∀ d, alV f (k + 1 + d) = false := by
  intro d
  induction d with
  | zero => simp only [alV, Nat.add_zero, decide_eq_false h, Bool.and_false]
  | succ d ih => show (alV f (k + 1 + d) && _) = false; rw [ih]; rfl
def erW (S : GS) (j : Int) (f : Nat → Int) (n : Nat) : Int := if (0 ≤ j ∧ j ≤ (gN S : Int) - 1) ∧ alV f n = true then 0 else 1
def erQ (S : GS) (j : Nat) (p : Int) : Int := if 0 ≤ p ∧ p ≤ (gNp S j : Int) - 1 then 0 else 1
set_option maxHeartbeats 4000000 in
theorem p_junctionWith (l : Launch) (E : EP) (hst : l.stackTraces = false) (ad : Nat → Nat → Nat) (S : GS) (j : Int) (q n : Nat) (f : Nat → Int) (H : Heap) (hP : GP E ad S H) (hI : gI S) (hj : -2147483648 ≤ j ∧ j ≤ 2147483647) (hq : ce E q (aI E n f) H) (hn : n ≤ 2) (hf : ∀ i, i < n → -2147483648 ≤ f i ∧ f i ≤ 2147483647) : gCr l E yX1_junctionWith cX1_junctionWith 8 (FieldType.object "Greenwave$Junction") 8 2 12 H [.ref (ad 6 0), .int (iI j), .ref q] (nA H) (fun q H1 => ((0 ≤ j ∧ j ≤ (gN S : Int) - 1) ∧ alV f n = true) ∧ q = ad 0 j.toNat ∧ H1 = H) (xC (erW S j f n) [nIx]) := by
  refine g_metX (by decide) (Nat.le_of_ble_eq_true rfl) (fun P_ e_ s M_ bl mt_ c_ ls X hno_ hk hh hl => ?_)
  subst hh
  have X : gX P_ s M_ mt_ c_ cX1_junctionWith 8 ([.ref (ad 6 0), .int (iI j), .ref q] : List Value).toArray RX1 (some (FieldType.object "Greenwave$Junction")) := X
  have hl : lv_has ls 8 [(0, .ref (ad 6 0)), (1, .int (iI j)), (2, .ref q)] := hl
  have hS : va_S (nA s.heap) s.heap s.heap [] := va_S.rf
  have hN0 : eN E ≤ s.heap.size := hk.N
  have hA0_ := GP.lts hP
  have hn5 := hI.1.1
  have hc := hI.2.1
  refine g_aload_n X dX1_junctionWith_0 rfl hl 0 rfl ?_
  refine g_iload_n X dX1_junctionWith_1 rfl hl 1 rfl ?_
  refine g_xcallrE (g_xrunV X hk (As := [.int (iI j)]) (rest := []) rfl (GP.X hP) (p_junctionAt l E hst ad S j s.heap hP hI (by omega)) 1 (lw_V q301 q303 qs3 q46 q304) (by decide +kernel) ⟨⟨Nat.le_of_ble_eq_true rfl, Nat.le_of_ble_eq_true rfl⟩, Nat.le_of_ble_eq_true rfl, Nat.le_of_ble_eq_true rfl⟩ rfl rfl hl.1 (Nat.le_of_ble_eq_true rfl) dX1_junctionWith_2) X hno_ hk hS (fun q h => Nat.le_trans hS.1 h) (fun q h => Nat.le_trans hk.N h) (fun q h => h) (fun Ex h => by obtain ⟨h1, rfl⟩ := h.one; exact ⟨0, by unfold erW; revert h1; unfold erJ; grind, rfl⟩) ⟨Nat.le_of_ble_eq_true rfl, Nat.le_of_ble_eq_true rfl⟩ (fun locs hB2 hS => ?_)
  have hj : (j).toNat < gN S := by omega
  refine g_astore_n (lv' := [(3, .ref (ad 0 ((j).toNat))), (0, .ref (ad 6 0)), (1, .int (iI j)), (2, .ref q)]) X dX1_junctionWith_5 rfl hl (by decide) rfl (fun ls hl => ?_)
  refine g_aload_n X dX1_junctionWith_6 rfl hl 3 rfl ?_
  refine g_astore (lv' := [(4, .ref q), (3, .ref (ad 0 ((j).toNat))), (0, .ref (ad 6 0)), (1, .int (iI j)), (2, .ref q)]) X dX1_junctionWith_7 hl (by decide) rfl (fun ls hl => ?_)
  refine g_aload X dX1_junctionWith_9 hl 0 rfl ?_
  refine g_alenI X hk (n := n) hq dX1_junctionWith_11 ?_
  refine g_istore (lv' := [(5, .int (iI ((n : Nat) : Int))), (4, .ref q), (3, .ref (ad 0 ((j).toNat))), (0, .ref (ad 6 0)), (1, .int (iI j)), (2, .ref q)]) X dX1_junctionWith_12 hl (by decide) rfl (fun ls hl => ?_)
  refine g_iconst X dX1_junctionWith_14 ?_
  refine g_istore (lv' := [(6, .int (iI 0)), (5, .int (iI ((n : Nat) : Int))), (4, .ref q), (3, .ref (ad 0 ((j).toNat))), (0, .ref (ad 6 0)), (1, .int (iI j)), (2, .ref q)]) X dX1_junctionWith_15 hl (by decide) rfl (fun ls hl => ?_)
  have loop_17 : gHide (∀ (n_ : Nat) (k : Nat) (v6 : Int), n + 1 ≤ k + n_ → v6 = ((k : Nat) : Int) → (k ≤ n) → (alV f k = true) → ∀ (ls : Array Slot), lv_has ls 8 [(6, .int (iI v6)), (5, .int (iI ((n : Nat) : Int))), (4, .ref q), (3, .ref (ad 0 ((j).toNat))), (0, .ref (ad 6 0)), (1, .int (iI j)), (2, .ref q)] → W P_ l e_ (gR 8 2 12) s M_ ([.ref (ad 6 0), .int (iI j), .ref q] : List Value).toArray bl mt_ c_ s.heap locs (0 + 1) (0 + 6) (vx_MQ bl (gQr (nA s.heap) (fun q H1 => ((0 ≤ j ∧ j ≤ (gN S : Int) - 1) ∧ alV f n = true) ∧ q = ad 0 j.toNat ∧ H1 = s.heap)) (gXD (xC (erW S j f n) [nIx])) ([.ref (ad 6 0), .int (iI j), .ref q] : List Value).toArray s 2 12 (nA s.heap)) (F0 M_ 17 ls [])) := by
    intro n_
    induction n_ with
    | zero => intro k v6 hb_ e_v6 hkb hv ls hl; exact absurd hb_ (by omega)
    | succ n_ ih_17 =>
      replace ih_17 := gHide.mk ih_17
      intro k v6 hb_ e_v6 hkb hv ls hl
      subst e_v6
      have hl : lv_has ls 8 [(6, .int (iI ((k : Nat) : Int))), (5, .int (iI ((n : Nat) : Int))), (4, .ref q), (3, .ref (ad 0 ((j).toNat))), (0, .ref (ad 6 0)), (1, .int (iI j)), (2, .ref q)] := hl
      refine g_iload X dX1_junctionWith_17 hl 0 rfl ?_
      refine g_iload X dX1_junctionWith_19 hl 1 rfl ?_
      refine g_icmp_ge X dX1_junctionWith_21 (tgt := 47) (by decide) (by omega) (fun c21 => ?_) (fun c21 => ?_)
      · refine g_aload_n X dX1_junctionWith_47 rfl hl 3 rfl ?_
        exact vx_ret (g_aret X (Or.inl ⟨_, rfl⟩) hS (⟨⟨hB2, by rw [show n = k by omega]; exact hv⟩, rfl, rfl⟩) ⟨Nat.le_of_ble_eq_true rfl, Nat.le_of_ble_eq_true rfl⟩ dX1_junctionWith_48)
      · refine g_aload X dX1_junctionWith_24 hl 2 rfl ?_
        refine g_iload X dX1_junctionWith_26 hl 0 rfl ?_
        refine g_ialdv X hk (j := k) (n := n) (f := f) (v := (f k)) hq (rfl) (by omega) (rfl) dX1_junctionWith_28 ?_
        refine g_istore (lv' := [(7, .int (iI (f k))), (6, .int (iI ((k : Nat) : Int))), (5, .int (iI ((n : Nat) : Int))), (4, .ref q), (3, .ref (ad 0 ((j).toNat))), (0, .ref (ad 6 0)), (1, .int (iI j)), (2, .ref q)]) X dX1_junctionWith_29 hl (by decide) rfl (fun ls hl => ?_)
        refine g_iload X dX1_junctionWith_31 hl 0 rfl ?_
        refine g_iconst X dX1_junctionWith_33 ?_
        refine g_iconst X dX1_junctionWith_34 ?_
        have hfk := hf k (by omega)
        refine g_pS X hk (As := [.int (iI (f k)), .int (iI 0), .int (iI 3)]) (rest := []) (p_inRange l E (f k) 0 3 s.heap (by omega) (by omega) (by omega)) 3 (lw_S q185 q186 q46 q187) (by decide +kernel) ⟨⟨Nat.le_of_ble_eq_true rfl, Nat.le_of_ble_eq_true rfl⟩, Nat.le_of_ble_eq_true rfl, Nat.le_of_ble_eq_true rfl⟩ rfl rfl hl.1 (Nat.le_of_ble_eq_true rfl) dX1_junctionWith_35 ?_
        have h38 := bZ_le (decide (0 ≤ f k ∧ f k ≤ 3))
        refine (show (bZ (decide (0 ≤ (f k) ∧ (f k) ≤ 3))) = 0 ∨ (bZ (decide (0 ≤ (f k) ∧ (f k) ≤ 3))) = 1 by omega).elim (fun z38 => ?_) (fun z38 => ?_)
        · exact g_thxS X hno_ hk (As := [.int (iI (bZ (decide (0 ≤ (f k) ∧ (f k) ≤ 3))))]) (rest := []) (rq_Index_t l E hst s.heap (bZ (decide (0 ≤ (f k) ∧ (f k) ≤ 3))) z38) 1 (lw_S q305 q306 q46 q307) (by decide +kernel) ⟨⟨Nat.le_of_ble_eq_true rfl, Nat.le_of_ble_eq_true rfl⟩, Nat.le_of_ble_eq_true rfl, Nat.le_of_ble_eq_true rfl⟩ rfl rfl hl.1 (Nat.le_of_ble_eq_true rfl) dX1_junctionWith_38 hS (fun q h => h) (⟨0, by unfold erW; rw [if_neg (fun h => by have e := alV_f (f := f) (k := k) (by grind [bZ]) (n - (k + 1)); rw [show k + 1 + (n - (k + 1)) = n by omega] at e; rw [e] at h; exact absurd h.2 (by decide))]; rfl, rfl⟩) ⟨Nat.le_of_ble_eq_true rfl, Nat.le_of_ble_eq_true rfl⟩
        refine g_callE (g_runS X hk (As := [.int (iI (bZ (decide (0 ≤ (f k) ∧ (f k) ≤ 3))))]) (rest := []) (rq_Index l E s.heap (bZ (decide (0 ≤ (f k) ∧ (f k) ≤ 3))) z38) 1 (lw_S q305 q306 q46 q307) (by decide +kernel) ⟨⟨Nat.le_of_ble_eq_true rfl, Nat.le_of_ble_eq_true rfl⟩, Nat.le_of_ble_eq_true rfl, Nat.le_of_ble_eq_true rfl⟩ rfl rfl hl.1 (Nat.le_of_ble_eq_true rfl) dX1_junctionWith_38) ?_
        have h41 : alV f (k + 1) = true := by simp only [alV, hv, Bool.true_and, decide_eq_true_eq]; grind [bZ]
        refine g_iinc (lv' := [(6, .int (iI (((k : Nat) : Int) + 1))), (7, .int (iI (f k))), (5, .int (iI ((n : Nat) : Int))), (4, .ref q), (3, .ref (ad 0 ((j).toNat))), (0, .ref (ad 6 0)), (1, .int (iI j)), (2, .ref q)]) X dX1_junctionWith_41 hl (k := 1) rfl (by decide) rfl (fun ls hl => ?_)
        refine g_goto X dX1_junctionWith_44 (tgt := 17) (by decide) ?_
        exact ih_17.out (k + 1) (((k : Nat) : Int) + 1) (by omega) (by omega) (by omega) h41 _ (lv_sub hl [0, 2, 3, 4, 5, 6, 7] rfl)
  exact loop_17.out (n + 1) 0 0 (by omega) (rfl) (by omega) rfl _ (lv_sub hl [0, 1, 2, 3, 4, 5, 6] rfl)
set_option maxHeartbeats 4000000 in
theorem p_requirePlans (l : Launch) (E : EP) (hst : l.stackTraces = false) (ad : Nat → Nat → Nat) (S : GS) (H : Heap) (hP : GP E ad S H) (hI : gI S) : gCv l E yX1_requirePlans cX1_requirePlans 5 7 1 6 H [.ref (ad 6 0)] (nA H) (fun H1 => alP S (gN S) = true ∧ H1 = H) (xC (erD S) [nSt]) := by
  refine g_metX (by decide) (Nat.le_of_ble_eq_true rfl) (fun P_ e_ s M_ bl mt_ c_ ls X hno_ hk hh hl => ?_)
  subst hh
  have X : gX P_ s M_ mt_ c_ cX1_requirePlans 5 ([.ref (ad 6 0)] : List Value).toArray RX1 none := X
  have hl : lv_has ls 5 [(0, .ref (ad 6 0))] := hl
  have hS : va_S (nA s.heap) s.heap s.heap [] := va_S.rf
  have hN0 : eN E ≤ s.heap.size := hk.N
  have hA0_ := GP.lts hP
  have hn5 := hI.1.1
  have hc := hI.2.1
  refine g_aload_n X dX1_requirePlans_0 rfl hl 0 rfl ?_
  refine g_get X hk (v := .ref (ad 7 0)) in_X1 rfl (GP.X hP) 0 (by decide) q142 (rfl) dX1_requirePlans_1 ?_
  refine g_astore_n (lv' := [(1, .ref (ad 7 0)), (0, .ref (ad 6 0))]) X dX1_requirePlans_4 rfl hl (by decide) rfl (fun ls hl => ?_)
  refine g_aload_n X dX1_requirePlans_5 rfl hl 0 rfl ?_
  refine g_alenQ X hk (n := (gN S)) (GP.Q hP) rfl dX1_requirePlans_6 ?_
  refine g_istore_n (lv' := [(2, .int (iI (((gN S) : Nat) : Int))), (1, .ref (ad 7 0)), (0, .ref (ad 6 0))]) X dX1_requirePlans_7 rfl hl (by decide) rfl (fun ls hl => ?_)
  refine g_iconst X dX1_requirePlans_8 ?_
  refine g_istore_n (lv' := [(3, .int (iI 0)), (2, .int (iI (((gN S) : Nat) : Int))), (1, .ref (ad 7 0)), (0, .ref (ad 6 0))]) X dX1_requirePlans_9 rfl hl (by decide) rfl (fun ls hl => ?_)
  have loop_10 : gHide (∀ (n_ : Nat) (k : Nat) (v3 : Int), gN S + 1 ≤ k + n_ → v3 = ((k : Nat) : Int) → (k ≤ gN S) → (alP S k = true) → ∀ (ls : Array Slot), lv_has ls 5 [(3, .int (iI v3)), (2, .int (iI (((gN S) : Nat) : Int))), (1, .ref (ad 7 0)), (0, .ref (ad 6 0))] → W P_ l e_ (gR 7 1 6) s M_ ([.ref (ad 6 0)] : List Value).toArray bl mt_ c_ s.heap [] 0 0 (vx_MQ bl (gQv (nA s.heap) (fun H1 => alP S (gN S) = true ∧ H1 = s.heap)) (gXD (xC (erD S) [nSt])) ([.ref (ad 6 0)] : List Value).toArray s 1 6 (nA s.heap)) (F0 M_ 10 ls [])) := by
    intro n_
    induction n_ with
    | zero => intro k v3 hb_ e_v3 hkb hv ls hl; exact absurd hb_ (by omega)
    | succ n_ ih_10 =>
      replace ih_10 := gHide.mk ih_10
      intro k v3 hb_ e_v3 hkb hv ls hl
      subst e_v3
      have hl : lv_has ls 5 [(3, .int (iI ((k : Nat) : Int))), (2, .int (iI (((gN S) : Nat) : Int))), (1, .ref (ad 7 0)), (0, .ref (ad 6 0))] := hl
      refine g_iload_n X dX1_requirePlans_10 rfl hl 0 rfl ?_
      refine g_iload_n X dX1_requirePlans_11 rfl hl 1 rfl ?_
      refine g_icmp_ge X dX1_requirePlans_12 (tgt := 42) (by decide) (by omega) (fun c12 => ?_) (fun c12 => ?_)
      · exact vx_ret (g_vret X hS (⟨by rw [show gN S = k by omega]; exact hv, rfl⟩) ⟨Nat.le_of_ble_eq_true rfl, Nat.le_of_ble_eq_true rfl⟩ dX1_requirePlans_42)
      · have join_33 : gHide (∀ (z : Int) (ls : Array Slot), z = (bZ (decide (0 ≤ lft S k))) → lv_has ls 5 [(3, .int (iI ((k : Nat) : Int))), (2, .int (iI (((gN S) : Nat) : Int))), (1, .ref (ad 7 0)), (0, .ref (ad 6 0))] → W P_ l e_ (gR 7 1 6) s M_ ([.ref (ad 6 0)] : List Value).toArray bl mt_ c_ s.heap [] 0 0 (vx_MQ bl (gQv (nA s.heap) (fun H1 => alP S (gN S) = true ∧ H1 = s.heap)) (gXD (xC (erD S) [nSt])) ([.ref (ad 6 0)] : List Value).toArray s 1 6 (nA s.heap)) (F0 M_ 33 ls [.int (iI z)])) := by
          intro z ls e_z hl
          subst e_z
          have hl : lv_has ls 5 [(3, .int (iI ((k : Nat) : Int))), (2, .int (iI (((gN S) : Nat) : Int))), (1, .ref (ad 7 0)), (0, .ref (ad 6 0))] := hl
          have h33 := bZ_le (decide (0 ≤ lft S k))
          refine (show (bZ (decide (0 ≤ lft S k))) = 0 ∨ (bZ (decide (0 ≤ lft S k))) = 1 by omega).elim (fun z33 => ?_) (fun z33 => ?_)
          · exact g_thxS X hno_ hk (As := [.int (iI (bZ (decide (0 ≤ lft S k))))]) (rest := []) (rq_State_t l E hst s.heap (bZ (decide (0 ≤ lft S k))) z33) 1 (lw_S q326 q327 q46 q328) (by decide +kernel) ⟨⟨Nat.le_of_ble_eq_true rfl, Nat.le_of_ble_eq_true rfl⟩, Nat.le_of_ble_eq_true rfl, Nat.le_of_ble_eq_true rfl⟩ rfl rfl hl.1 (Nat.le_of_ble_eq_true rfl) dX1_requirePlans_33 hS (fun q h => h) (⟨0, by unfold erD; rw [if_neg (fun h => by have := (alP_iff S _).mp h k (by omega); grind [bZ])]; rfl, rfl⟩) ⟨Nat.le_of_ble_eq_true rfl, Nat.le_of_ble_eq_true rfl⟩
          refine g_callE (g_runS X hk (As := [.int (iI (bZ (decide (0 ≤ lft S k))))]) (rest := []) (rq_State l E s.heap (bZ (decide (0 ≤ lft S k))) z33) 1 (lw_S q326 q327 q46 q328) (by decide +kernel) ⟨⟨Nat.le_of_ble_eq_true rfl, Nat.le_of_ble_eq_true rfl⟩, Nat.le_of_ble_eq_true rfl, Nat.le_of_ble_eq_true rfl⟩ rfl rfl hl.1 (Nat.le_of_ble_eq_true rfl) dX1_requirePlans_33) ?_
          have h36 : alP S (k + 1) = true := by
            rw [alP_iff]
            intro i hi
            by_cases e : i = k
            · subst e; grind [bZ]
            · exact (alP_iff S k).mp hv i (by omega)
          refine g_iinc (lv' := [(3, .int (iI (((k : Nat) : Int) + 1))), (2, .int (iI (((gN S) : Nat) : Int))), (1, .ref (ad 7 0)), (0, .ref (ad 6 0))]) X dX1_requirePlans_36 hl (k := 0) rfl (by decide) rfl (fun ls hl => ?_)
          refine g_goto X dX1_requirePlans_39 (tgt := 10) (by decide) ?_
          exact ih_10.out (k + 1) (((k : Nat) : Int) + 1) (by omega) (by omega) (by omega) h36 _ (lv_sub hl [0, 1, 2, 3] rfl)
        refine g_aload_n X dX1_requirePlans_15 rfl hl 2 rfl ?_
        refine g_iload_n X dX1_requirePlans_16 rfl hl 0 rfl ?_
        refine g_aald X hk (j := k) (n := (gN S)) (q := (ad 0 k)) (GP.Q hP) (cA := 1) rfl rfl (rfl) (by omega) (rfl) dX1_requirePlans_17 ?_
        refine g_astore (lv' := [(4, .ref (ad 0 k)), (3, .int (iI ((k : Nat) : Int))), (2, .int (iI (((gN S) : Nat) : Int))), (1, .ref (ad 7 0)), (0, .ref (ad 6 0))]) X dX1_requirePlans_18 hl (by decide) rfl (fun ls hl => ?_)
        refine g_aload X dX1_requirePlans_20 hl 0 rfl ?_
        refine g_pV X hk (As := []) (rest := []) rfl (GP.J hP (by omega)) (p_left l E ad S s.heap hP hI k (by omega)) 0 (lw_V q396 q397 q398 q47 q399) (by decide +kernel) ⟨⟨Nat.le_of_ble_eq_true rfl, Nat.le_of_ble_eq_true rfl⟩, Nat.le_of_ble_eq_true rfl, Nat.le_of_ble_eq_true rfl⟩ rfl rfl hl.1 (Nat.le_of_ble_eq_true rfl) dX1_requirePlans_22 ?_
        have h25 := lft_b hI (show k < gN S by omega)
        refine g_if_lt X dX1_requirePlans_25 (tgt := 32) (by decide) (by omega) (fun c25 => ?_) (fun c25 => ?_)
        · refine g_iconst X dX1_requirePlans_32 ?_
          exact join_33.out 0 _ (by grind [bZ]) (lv_sub hl [1, 2, 3, 4] rfl)
        · refine g_iconst X dX1_requirePlans_28 ?_
          refine g_goto X dX1_requirePlans_29 (tgt := 33) (by decide) ?_
          exact join_33.out 1 _ (by grind [bZ]) (lv_sub hl [1, 2, 3, 4] rfl)
  exact loop_10.out (gN S + 1) 0 0 (by omega) (rfl) (by omega) rfl _ (lv_sub hl [0, 1, 2, 3] rfl)
set_option maxHeartbeats 4000000 in
theorem p_requirePhase (l : Launch) (E : EP) (hst : l.stackTraces = false) (ad : Nat → Nat → Nat) (S : GS) (j : Nat) (p : Int) (H : Heap) (hP : GP E ad S H) (hI : gI S) (hj : j < gN S) (hp : -2147483648 ≤ p ∧ p ≤ 2147483647) : gCv l E yX1_requirePhase cX1_requirePhase 2 7 1 6 H [.ref (ad 0 j), .int (iI p)] (nA H) (fun H1 => (0 ≤ p ∧ p ≤ (gNp S j : Int) - 1) ∧ H1 = H) (xC (erQ S j p) [nIx]) := by
  refine g_metX (by decide) (Nat.le_of_ble_eq_true rfl) (fun P_ e_ s M_ bl mt_ c_ ls X hno_ hk hh hl => ?_)
  subst hh
  have X : gX P_ s M_ mt_ c_ cX1_requirePhase 2 ([.ref (ad 0 j), .int (iI p)] : List Value).toArray RX1 none := X
  have hl : lv_has ls 2 [(0, .ref (ad 0 j)), (1, .int (iI p))] := hl
  have hS : va_S (nA s.heap) s.heap s.heap [] := va_S.rf
  have hN0 : eN E ≤ s.heap.size := hk.N
  have hA0_ := GP.lts hP
  have hn5 := hI.1.1
  have hc := hI.2.1
  have hnp := (hI.2.2 j hj).1
  refine g_iload_n X dX1_requirePhase_0 rfl hl 1 rfl ?_
  refine g_iconst X dX1_requirePhase_1 ?_
  refine g_aload_n X dX1_requirePhase_2 rfl hl 0 rfl ?_
  refine g_getN X hk (v := .ref (ad 3 j)) (host := "Greenwave") in_X2 rfl (GP.J hP hj) 3 (by decide) 3 rfl (rfl) dX1_requirePhase_3 ?_
  refine g_alenI X hk (n := (gNp S j)) (GP.P hP hj) dX1_requirePhase_6 ?_
  refine g_iconst X dX1_requirePhase_7 ?_
  refine g_isub X dX1_requirePhase_8 ?_
  refine g_pS X hk (As := [.int (iI p), .int (iI 0), .int (iI ((((gNp S j) : Nat) : Int) - 1))]) (rest := []) (p_inRange l E p 0 ((((gNp S j) : Nat) : Int) - 1) s.heap (by omega) (by omega) (by omega)) 3 (lw_S q185 q186 q46 q187) (by decide +kernel) ⟨⟨Nat.le_of_ble_eq_true rfl, Nat.le_of_ble_eq_true rfl⟩, Nat.le_of_ble_eq_true rfl, Nat.le_of_ble_eq_true rfl⟩ rfl rfl hl.1 (Nat.le_of_ble_eq_true rfl) dX1_requirePhase_9 ?_
  have h12 := bZ_le (decide (0 ≤ p ∧ p ≤ (gNp S j : Int) - 1))
  refine (show (bZ (decide (0 ≤ p ∧ p ≤ ((((gNp S j) : Nat) : Int) - 1)))) = 0 ∨ (bZ (decide (0 ≤ p ∧ p ≤ ((((gNp S j) : Nat) : Int) - 1)))) = 1 by omega).elim (fun z12 => ?_) (fun z12 => ?_)
  · exact g_thxS X hno_ hk (As := [.int (iI (bZ (decide (0 ≤ p ∧ p ≤ ((((gNp S j) : Nat) : Int) - 1)))))]) (rest := []) (rq_Index_t l E hst s.heap (bZ (decide (0 ≤ p ∧ p ≤ ((((gNp S j) : Nat) : Int) - 1)))) z12) 1 (lw_S q305 q306 q46 q307) (by decide +kernel) ⟨⟨Nat.le_of_ble_eq_true rfl, Nat.le_of_ble_eq_true rfl⟩, Nat.le_of_ble_eq_true rfl, Nat.le_of_ble_eq_true rfl⟩ rfl rfl hl.1 (Nat.le_of_ble_eq_true rfl) dX1_requirePhase_12 hS (fun q h => h) (⟨0, by unfold erQ; grind [bZ], rfl⟩) ⟨Nat.le_of_ble_eq_true rfl, Nat.le_of_ble_eq_true rfl⟩
  refine g_callE (g_runS X hk (As := [.int (iI (bZ (decide (0 ≤ p ∧ p ≤ ((((gNp S j) : Nat) : Int) - 1)))))]) (rest := []) (rq_Index l E s.heap (bZ (decide (0 ≤ p ∧ p ≤ ((((gNp S j) : Nat) : Int) - 1)))) z12) 1 (lw_S q305 q306 q46 q307) (by decide +kernel) ⟨⟨Nat.le_of_ble_eq_true rfl, Nat.le_of_ble_eq_true rfl⟩, Nat.le_of_ble_eq_true rfl, Nat.le_of_ble_eq_true rfl⟩ rfl rfl hl.1 (Nat.le_of_ble_eq_true rfl) dX1_requirePhase_12) ?_
  exact vx_ret (g_vret X hS (⟨by grind [bZ], rfl⟩) ⟨Nat.le_of_ble_eq_true rfl, Nat.le_of_ble_eq_true rfl⟩ dX1_requirePhase_15)
