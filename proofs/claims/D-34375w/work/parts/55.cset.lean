/-! the corridor: set up -/
set_option maxHeartbeats 4000000 in
theorem p_setOffset (l : Launch) (E : EP) (hst : l.stackTraces = false) (ad : Nat → Nat → Nat) (S : GS) (j o : Int) (H : Heap) (hP : GP E ad S H) (hI : gI S) (hj : -2147483648 ≤ j ∧ j ≤ 2147483647) (ho : -2147483648 ≤ o ∧ o ≤ 2147483647) : gCi l E yX1_setOffset cX1_setOffset 5 .int 9 3 18 H [.ref (ad 6 0), .int (iI j), .int (iI o)] (gW (gN S) ad H) (fun z H1 => erO S j o = 0 ∧ z = gOff S j.toNat ∧ GP E ad (gset S 14 j.toNat 0 o) H1) (xC (erO S j o) [nIx, nAr, nSt]) := by
  refine g_metX (by decide) (Nat.le_of_ble_eq_true rfl) (fun P_ e_ s M_ bl mt_ c_ ls X hno_ hk hh hl => ?_)
  subst hh
  have X : gX P_ s M_ mt_ c_ cX1_setOffset 5 ([.ref (ad 6 0), .int (iI j), .int (iI o)] : List Value).toArray RX1 (some .int) := X
  have hl : lv_has ls 5 [(0, .ref (ad 6 0)), (1, .int (iI j)), (2, .int (iI o))] := hl
  have hS : va_S (nA s.heap) s.heap s.heap [] := va_S.rf
  have hN0 : eN E ≤ s.heap.size := hk.N
  have hA0_ := GP.lts hP
  have hn5 := hI.1.1
  have hc := hI.2.1
  have hrun := hI.1.2.1
  have hnow := hI.1.2.2
  refine g_aload_n X dX1_setOffset_0 rfl hl 0 rfl ?_
  refine g_iload_n X dX1_setOffset_1 rfl hl 1 rfl ?_
  refine g_xcallrE (g_xrunV X hk (As := [.int (iI j)]) (rest := []) rfl (GP.X hP) (p_junctionAt l E hst ad S j s.heap hP hI (by omega)) 1 (lw_V q301 q303 qs3 q46 q304) (by decide +kernel) ⟨⟨Nat.le_of_ble_eq_true rfl, Nat.le_of_ble_eq_true rfl⟩, Nat.le_of_ble_eq_true rfl, Nat.le_of_ble_eq_true rfl⟩ rfl rfl hl.1 (Nat.le_of_ble_eq_true rfl) dX1_setOffset_2) X hno_ hk hS (fun q h => Nat.le_trans hS.1 h) (fun q h => Nat.le_trans hk.N h) (fun q h => Or.inr h) (fun Ex h => by obtain ⟨h1, rfl⟩ := h.one; exact ⟨0, by unfold erO; revert h1; unfold erJ; grind, rfl⟩) ⟨Nat.le_of_ble_eq_true rfl, Nat.le_of_ble_eq_true rfl⟩ (fun locs hB2 hS => ?_)
  have hj : (j).toNat < gN S := by omega
  refine g_astore_n (lv' := [(3, .ref (ad 0 ((j).toNat))), (0, .ref (ad 6 0)), (1, .int (iI j)), (2, .int (iI o))]) X dX1_setOffset_5 rfl hl (by decide) rfl (fun ls hl => ?_)
  refine g_iload_n X dX1_setOffset_6 rfl hl 3 rfl ?_
  refine g_iconst X dX1_setOffset_7 ?_
  refine g_aload_n X dX1_setOffset_8 rfl hl 1 rfl ?_
  refine g_get X hk (v := .int (iI (gCyc S))) in_X1 rfl (GP.X hP) 1 (by decide) q143 (rfl) dX1_setOffset_9 ?_
  refine g_iconst X dX1_setOffset_12 ?_
  refine g_isub X dX1_setOffset_13 ?_
  refine g_pS X hk (As := [.int (iI o), .int (iI 0), .int (iI ((gCyc S) - 1))]) (rest := []) (p_inRange l E o 0 ((gCyc S) - 1) s.heap (by omega) (by omega) (by omega)) 3 (lw_S q185 q186 q46 q187) (by decide +kernel) ⟨⟨Nat.le_of_ble_eq_true rfl, Nat.le_of_ble_eq_true rfl⟩, Nat.le_of_ble_eq_true rfl, Nat.le_of_ble_eq_true rfl⟩ rfl rfl hl.1 (Nat.le_of_ble_eq_true rfl) dX1_setOffset_14 ?_
  have h17 := bZ_le (decide (0 ≤ o ∧ o ≤ gCyc S - 1))
  refine (show (bZ (decide (0 ≤ o ∧ o ≤ ((gCyc S) - 1)))) = 0 ∨ (bZ (decide (0 ≤ o ∧ o ≤ ((gCyc S) - 1)))) = 1 by omega).elim (fun z17 => ?_) (fun z17 => ?_)
  · exact g_thxS X hno_ hk (As := [.int (iI (bZ (decide (0 ≤ o ∧ o ≤ ((gCyc S) - 1)))))]) (rest := []) (rq_Argument_t l E hst s.heap (bZ (decide (0 ≤ o ∧ o ≤ ((gCyc S) - 1)))) z17) 1 (lw_S q188 q189 q46 q190) (by decide +kernel) ⟨⟨Nat.le_of_ble_eq_true rfl, Nat.le_of_ble_eq_true rfl⟩, Nat.le_of_ble_eq_true rfl, Nat.le_of_ble_eq_true rfl⟩ rfl rfl hl.1 (Nat.le_of_ble_eq_true rfl) dX1_setOffset_17 hS (fun q h => Or.inr h) (⟨1, by unfold erO; grind [bZ], rfl⟩) ⟨Nat.le_of_ble_eq_true rfl, Nat.le_of_ble_eq_true rfl⟩
  refine g_callE (g_runS X hk (As := [.int (iI (bZ (decide (0 ≤ o ∧ o ≤ ((gCyc S) - 1)))))]) (rest := []) (rq_Argument l E s.heap (bZ (decide (0 ≤ o ∧ o ≤ ((gCyc S) - 1)))) z17) 1 (lw_S q188 q189 q46 q190) (by decide +kernel) ⟨⟨Nat.le_of_ble_eq_true rfl, Nat.le_of_ble_eq_true rfl⟩, Nat.le_of_ble_eq_true rfl, Nat.le_of_ble_eq_true rfl⟩ rfl rfl hl.1 (Nat.le_of_ble_eq_true rfl) dX1_setOffset_17) ?_
  have join_32 : gHide (∀ (z : Int) (ls : Array Slot), z = (bZ (decide (gRun S = 0))) → lv_has ls 5 [(3, .ref (ad 0 ((j).toNat))), (0, .ref (ad 6 0)), (1, .int (iI j)), (2, .int (iI o))] → W P_ l e_ (gR 9 3 18) s M_ ([.ref (ad 6 0), .int (iI j), .int (iI o)] : List Value).toArray bl mt_ c_ s.heap locs (0 + 1) (0 + 6) (vx_MQ bl (gQi (gW (gN S) ad s.heap) (fun z H1 => erO S j o = 0 ∧ z = gOff S j.toNat ∧ GP E ad (gset S 14 j.toNat 0 o) H1)) (gXD (xC (erO S j o) [nIx, nAr, nSt])) ([.ref (ad 6 0), .int (iI j), .int (iI o)] : List Value).toArray s 3 18 (gW (gN S) ad s.heap)) (F0 M_ 32 ls [.int (iI z)])) := by
    intro z ls e_z hl
    subst e_z
    have hl : lv_has ls 5 [(3, .ref (ad 0 ((j).toNat))), (0, .ref (ad 6 0)), (1, .int (iI j)), (2, .int (iI o))] := hl
    have hzr := bZ_le (decide (gRun S = 0))
    refine (show (bZ (decide (gRun S = 0))) = 0 ∨ (bZ (decide (gRun S = 0))) = 1 by omega).elim (fun z32 => ?_) (fun z32 => ?_)
    · exact g_thxS X hno_ hk (As := [.int (iI (bZ (decide (gRun S = 0))))]) (rest := []) (rq_State_t l E hst s.heap (bZ (decide (gRun S = 0))) z32) 1 (lw_S q326 q327 q46 q328) (by decide +kernel) ⟨⟨Nat.le_of_ble_eq_true rfl, Nat.le_of_ble_eq_true rfl⟩, Nat.le_of_ble_eq_true rfl, Nat.le_of_ble_eq_true rfl⟩ rfl rfl hl.1 (Nat.le_of_ble_eq_true rfl) dX1_setOffset_32 hS (fun q h => Or.inr h) (⟨2, by unfold erO; grind [bZ], rfl⟩) ⟨Nat.le_of_ble_eq_true rfl, Nat.le_of_ble_eq_true rfl⟩
    refine g_callE (g_runS X hk (As := [.int (iI (bZ (decide (gRun S = 0))))]) (rest := []) (rq_State l E s.heap (bZ (decide (gRun S = 0))) z32) 1 (lw_S q326 q327 q46 q328) (by decide +kernel) ⟨⟨Nat.le_of_ble_eq_true rfl, Nat.le_of_ble_eq_true rfl⟩, Nat.le_of_ble_eq_true rfl, Nat.le_of_ble_eq_true rfl⟩ rfl rfl hl.1 (Nat.le_of_ble_eq_true rfl) dX1_setOffset_32) ?_
    refine g_aload_n X dX1_setOffset_35 rfl hl 0 rfl ?_
    refine g_getN X hk (v := .int (iI (gOff S ((j).toNat)))) (host := "Greenwave") in_X2 rfl (GP.J hP hj) 4 (by decide) 4 rfl (rfl) dX1_setOffset_36 ?_
    refine g_istore (lv' := [(4, .int (iI (gOff S ((j).toNat)))), (3, .ref (ad 0 ((j).toNat))), (0, .ref (ad 6 0)), (1, .int (iI j)), (2, .int (iI o))]) X dX1_setOffset_39 hl (by decide) rfl (fun ls hl => ?_)
    refine g_aload_n X dX1_setOffset_41 rfl hl 1 rfl ?_
    refine g_iload_n X dX1_setOffset_42 rfl hl 4 rfl ?_
    have hS : va_S (gW (gN S) ad s.heap) s.heap s.heap _ := g_ws hS (fun q h => Or.inr h)
    refine g_putN X hk hS ⟨Or.inl ⟨0, ((j).toNat), gv_0 (by decide) (by omega), rfl⟩, hP.2.2 _ _ (gv_0 (by decide) hj)⟩ in_X2 tyX2 tyX2_ok nmX2 rfl (GP.J hP hj) 4 (by decide) 4 rfl rfl (ty := .int) (by decide +kernel) rfl rfl (Nat.le_of_ble_eq_true rfl) dX1_setOffset_43 (fun H locs hc_ hk hz_ ho_ hS => ?_)
    have hP : GP E ad (gset S 14 ((j).toNat) 0 o) H := GP.putJ hP hj 4 rfl hc_ ho_
    refine g_iload X dX1_setOffset_46 hl 0 rfl ?_
    exact vx_ret (g_iret X hS (⟨by unfold erO; grind [bZ], rfl, hP⟩) ⟨Nat.le_of_ble_eq_true rfl, Nat.le_of_ble_eq_true rfl⟩ dX1_setOffset_48)
  refine g_aload_n X dX1_setOffset_20 rfl hl 1 rfl ?_
  refine g_get X hk (v := .int (iI (gRun S))) in_X1 rfl (GP.X hP) 3 (by decide) q145 (rfl) dX1_setOffset_21 ?_
  refine g_if_ne X dX1_setOffset_24 (tgt := 31) (by decide) (by omega) (fun c24 => ?_) (fun c24 => ?_)
  · refine g_iconst X dX1_setOffset_31 ?_
    exact join_32.out 0 _ (by grind [bZ]) (lv_sub hl [0, 1, 2, 3] rfl)
  · refine g_iconst X dX1_setOffset_27 ?_
    refine g_goto X dX1_setOffset_28 (tgt := 32) (by decide) ?_
    exact join_32.out 1 _ (by grind [bZ]) (lv_sub hl [0, 1, 2, 3] rfl)
