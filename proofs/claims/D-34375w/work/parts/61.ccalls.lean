/-! the corridor: set up, asked -/
theorem alV2 (a b : Int) : alV (uI (uI (fun _ => 0) 0 a) 1 b) 2 = (decide (0 ≤ a ∧ a ≤ 3) && decide (0 ≤ b ∧ b ≤ 3)) := by
  simp [alV, uI]
theorem phN4_at {a b c d : Int} {k : Nat} (ha : 1 ≤ a) (hk : k ≤ 4) (h : ∀ i, i < k → ¬ phF a b c d i = 0) (h2 : k = 4 ∨ phF a b c d k = 0) : k = phN4 b c d := by
  have h1 : 1 < k → ¬ b = 0 := fun q => h 1 q
  have h3 : 2 < k → ¬ c = 0 := fun q => h 2 q
  have h4 : 3 < k → ¬ d = 0 := fun q => h 3 q
  have e : k = 0 ∨ k = 1 ∨ k = 2 ∨ k = 3 ∨ k = 4 := by omega
  unfold phN4
  rcases e with rfl | rfl | rfl | rfl | rfl
  · exact absurd (h2.resolve_left (by decide)) (by show ¬ a = 0; omega)
  · have q : b = 0 := h2.resolve_left (by decide)
    rw [if_pos q]
  · have q : c = 0 := h2.resolve_left (by decide)
    rw [if_neg (h1 (by decide)), if_pos q]
  · have q : d = 0 := h2.resolve_left (by decide)
    rw [if_neg (h1 (by decide)), if_neg (h3 (by decide)), if_pos q]
  · rw [if_neg (h1 (by decide)), if_neg (h3 (by decide)), if_neg (h4 (by decide))]
def phP (a b c d : Int) (k : Nat) (i : Nat) : Int := if i < k then phF a b c d i else 0
theorem phP_s (a b c d : Int) (k : Nat) : uI (phP a b c d k) k (phF a b c d k) = phP a b c d (k + 1) := by
  funext i
  unfold uI phP
  by_cases h : i = k
  · subst h; rw [if_pos rfl, if_pos (by omega)]
  · rw [if_neg h]
    by_cases h2 : i < k
    · rw [if_pos h2, if_pos (by omega)]
    · rw [if_neg h2, if_neg (by omega)]
set_option maxHeartbeats 4000000 in
theorem p_junctions (l : Launch) (E : EP) (ad : Nat → Nat → Nat) (S : GS) (H : Heap) (hP : GP E ad S H) : gP l E yX1_junctions cX1_junctions 1 .int 0 H [.ref (ad 6 0)] (gN S : Int) := by
  refine g_met (plainFor_of_name (by decide)) (Nat.le_of_ble_eq_true rfl) (fun P_ e_ s M_ bl mt_ c_ ls X _ hk hh hl => ?_)
  subst hh
  have X : gX P_ s M_ mt_ c_ cX1_junctions 1 ([.ref (ad 6 0)] : List Value).toArray RX1 (some .int) := X
  have hl : lv_has ls 1 [(0, .ref (ad 6 0))] := hl
  refine g_aload_n X dX1_junctions_0 rfl hl 0 rfl ?_
  refine g_get X hk (v := .ref (ad 7 0)) in_X1 rfl (GP.X hP) 0 (by decide) q142 (rfl) dX1_junctions_1 ?_
  refine g_alenQ X hk (n := (gN S)) (GP.Q hP) rfl dX1_junctions_4 ?_
  exact g_iretP X (rfl) dX1_junctions_5
set_option maxHeartbeats 4000000 in
theorem p_clock (l : Launch) (E : EP) (ad : Nat → Nat → Nat) (S : GS) (H : Heap) (hP : GP E ad S H) : gP l E yX1_clock cX1_clock 1 .int 0 H [.ref (ad 6 0)] (gNow S) := by
  refine g_met (plainFor_of_name (by decide)) (Nat.le_of_ble_eq_true rfl) (fun P_ e_ s M_ bl mt_ c_ ls X _ hk hh hl => ?_)
  subst hh
  have X : gX P_ s M_ mt_ c_ cX1_clock 1 ([.ref (ad 6 0)] : List Value).toArray RX1 (some .int) := X
  have hl : lv_has ls 1 [(0, .ref (ad 6 0))] := hl
  refine g_aload_n X dX1_clock_0 rfl hl 0 rfl ?_
  refine g_get X hk (v := .int (iI (gNow S))) in_X1 rfl (GP.X hP) 2 (by decide) q144 (rfl) dX1_clock_1 ?_
  exact g_iretP X (rfl) dX1_clock_4
set_option maxHeartbeats 4000000 in
theorem p_come (l : Launch) (E : EP) (ad : Nat → Nat → Nat) (S : GS) (H : Heap) (hP : GP E ad S H) : gP l E yX1_come cX1_come 1 .int 0 H [.ref (ad 6 0)] (gCam S) := by
  refine g_met (plainFor_of_name (by decide)) (Nat.le_of_ble_eq_true rfl) (fun P_ e_ s M_ bl mt_ c_ ls X _ hk hh hl => ?_)
  subst hh
  have X : gX P_ s M_ mt_ c_ cX1_come 1 ([.ref (ad 6 0)] : List Value).toArray RX1 (some .int) := X
  have hl : lv_has ls 1 [(0, .ref (ad 6 0))] := hl
  refine g_aload_n X dX1_come_0 rfl hl 0 rfl ?_
  refine g_get X hk (v := .int (iI (gCam S))) in_X1 rfl (GP.X hP) 4 (by decide) q146 (rfl) dX1_come_1 ?_
  exact g_iretP X (rfl) dX1_come_4
set_option maxHeartbeats 4000000 in
theorem p_through (l : Launch) (E : EP) (ad : Nat → Nat → Nat) (S : GS) (H : Heap) (hP : GP E ad S H) : gP l E yX1_through cX1_through 1 .int 0 H [.ref (ad 6 0)] (gLef S) := by
  refine g_met (plainFor_of_name (by decide)) (Nat.le_of_ble_eq_true rfl) (fun P_ e_ s M_ bl mt_ c_ ls X _ hk hh hl => ?_)
  subst hh
  have X : gX P_ s M_ mt_ c_ cX1_through 1 ([.ref (ad 6 0)] : List Value).toArray RX1 (some .int) := X
  have hl : lv_has ls 1 [(0, .ref (ad 6 0))] := hl
  refine g_aload_n X dX1_through_0 rfl hl 0 rfl ?_
  refine g_get X hk (v := .int (iI (gLef S))) in_X1 rfl (GP.X hP) 5 (by decide) q147 (rfl) dX1_through_1 ?_
  exact g_iretP X (rfl) dX1_through_4
set_option maxHeartbeats 4000000 in
theorem p_hasPlan (l : Launch) (E : EP) (hst : l.stackTraces = false) (ad : Nat → Nat → Nat) (S : GS) (j : Int) (H : Heap) (hP : GP E ad S H) (hI : gI S) (hj : -2147483648 ≤ j ∧ j ≤ 2147483647) : gCi l E yX1_hasPlan cX1_hasPlan 2 .boolean 8 1 6 H [.ref (ad 6 0), .int (iI j)] (nA H) (fun z H1 => erJ S j = 0 ∧ z = bZ (decide (0 ≤ lft S (j.toNat))) ∧ GP E ad S H1) (xC (erJ S j) [nIx]) := by
  refine g_metX (by decide) (Nat.le_of_ble_eq_true rfl) (fun P_ e_ s M_ bl mt_ c_ ls X hno_ hk hh hl => ?_)
  subst hh
  have X : gX P_ s M_ mt_ c_ cX1_hasPlan 2 ([.ref (ad 6 0), .int (iI j)] : List Value).toArray RX1 (some .boolean) := X
  have hl : lv_has ls 2 [(0, .ref (ad 6 0)), (1, .int (iI j))] := hl
  have hS : va_S (nA s.heap) s.heap s.heap [] := va_S.rf
  have hN0 : eN E ≤ s.heap.size := hk.N
  have hA0_ := GP.lts hP
  have hn5 := hI.1.1
  have hc := hI.2.1
  refine g_aload_n X dX1_hasPlan_0 rfl hl 0 rfl ?_
  refine g_iload_n X dX1_hasPlan_1 rfl hl 1 rfl ?_
  refine g_xcallrE (g_xrunV X hk (As := [.int (iI j)]) (rest := []) rfl (GP.X hP) (p_junctionAt l E hst ad S j s.heap hP hI (by omega)) 1 (lw_V q301 q303 qs3 q46 q304) (by decide +kernel) ⟨⟨Nat.le_of_ble_eq_true rfl, Nat.le_of_ble_eq_true rfl⟩, Nat.le_of_ble_eq_true rfl, Nat.le_of_ble_eq_true rfl⟩ rfl rfl hl.1 (Nat.le_of_ble_eq_true rfl) dX1_hasPlan_2) X hno_ hk hS (fun q h => Nat.le_trans hS.1 h) (fun q h => Nat.le_trans hk.N h) (fun q h => h) (fun Ex h => h) ⟨Nat.le_of_ble_eq_true rfl, Nat.le_of_ble_eq_true rfl⟩ (fun locs hB2 hS => ?_)
  have hj1 : (j).toNat < gN S := by omega
  have join_16 : gHide (∀ (z : Int) (ls : Array Slot), z = (bZ (decide (0 ≤ lft S (j.toNat)))) → lv_has ls 2 [(0, .ref (ad 6 0)), (1, .int (iI j))] → W P_ l e_ (gR 8 1 6) s M_ ([.ref (ad 6 0), .int (iI j)] : List Value).toArray bl mt_ c_ s.heap locs (0 + 1) (0 + 6) (vx_MQ bl (gQi (nA s.heap) (fun z H1 => erJ S j = 0 ∧ z = bZ (decide (0 ≤ lft S (j.toNat))) ∧ GP E ad S H1)) (gXD (xC (erJ S j) [nIx])) ([.ref (ad 6 0), .int (iI j)] : List Value).toArray s 1 6 (nA s.heap)) (F0 M_ 16 ls [.int (iI z)])) := by
    intro z ls e_z hl
    subst e_z
    have hl : lv_has ls 2 [(0, .ref (ad 6 0)), (1, .int (iI j))] := hl
    exact vx_ret (g_zret X (by first | exact bZ_le _ | omega) hS (⟨by unfold erJ; rw [if_pos hB2], rfl, hP⟩) ⟨Nat.le_of_ble_eq_true rfl, Nat.le_of_ble_eq_true rfl⟩ dX1_hasPlan_16)
  refine g_pV X hk (As := []) (rest := []) rfl (GP.J hP hj1) (p_left l E ad S s.heap hP hI ((j).toNat) hj1) 0 (lw_V q396 q397 q398 q47 q399) (by decide +kernel) ⟨⟨Nat.le_of_ble_eq_true rfl, Nat.le_of_ble_eq_true rfl⟩, Nat.le_of_ble_eq_true rfl, Nat.le_of_ble_eq_true rfl⟩ rfl rfl hl.1 (Nat.le_of_ble_eq_true rfl) dX1_hasPlan_5 ?_
  have h8 := lft_b hI hj1
  refine g_if_lt X dX1_hasPlan_8 (tgt := 15) (by decide) (by omega) (fun c8 => ?_) (fun c8 => ?_)
  · refine g_iconst X dX1_hasPlan_15 ?_
    exact join_16.out 0 _ (by grind [bZ]) (lv_sub hl [0, 1] rfl)
  · refine g_iconst X dX1_hasPlan_11 ?_
    refine g_goto X dX1_hasPlan_12 (tgt := 16) (by decide) ?_
    exact join_16.out 1 _ (by grind [bZ]) (lv_sub hl [0, 1] rfl)
set_option maxHeartbeats 4000000 in
theorem p_offset (l : Launch) (E : EP) (hst : l.stackTraces = false) (ad : Nat → Nat → Nat) (S : GS) (j : Int) (H : Heap) (hP : GP E ad S H) (hI : gI S) (hj : -2147483648 ≤ j ∧ j ≤ 2147483647) : gCi l E yX1_offset cX1_offset 2 .int 8 1 6 H [.ref (ad 6 0), .int (iI j)] (nA H) (fun z H1 => erJ S j = 0 ∧ z = gOff S (j.toNat) ∧ GP E ad S H1) (xC (erJ S j) [nIx]) := by
  refine g_metX (by decide) (Nat.le_of_ble_eq_true rfl) (fun P_ e_ s M_ bl mt_ c_ ls X hno_ hk hh hl => ?_)
  subst hh
  have X : gX P_ s M_ mt_ c_ cX1_offset 2 ([.ref (ad 6 0), .int (iI j)] : List Value).toArray RX1 (some .int) := X
  have hl : lv_has ls 2 [(0, .ref (ad 6 0)), (1, .int (iI j))] := hl
  have hS : va_S (nA s.heap) s.heap s.heap [] := va_S.rf
  have hN0 : eN E ≤ s.heap.size := hk.N
  have hA0_ := GP.lts hP
  have hn5 := hI.1.1
  have hc := hI.2.1
  refine g_aload_n X dX1_offset_0 rfl hl 0 rfl ?_
  refine g_iload_n X dX1_offset_1 rfl hl 1 rfl ?_
  refine g_xcallrE (g_xrunV X hk (As := [.int (iI j)]) (rest := []) rfl (GP.X hP) (p_junctionAt l E hst ad S j s.heap hP hI (by omega)) 1 (lw_V q301 q303 qs3 q46 q304) (by decide +kernel) ⟨⟨Nat.le_of_ble_eq_true rfl, Nat.le_of_ble_eq_true rfl⟩, Nat.le_of_ble_eq_true rfl, Nat.le_of_ble_eq_true rfl⟩ rfl rfl hl.1 (Nat.le_of_ble_eq_true rfl) dX1_offset_2) X hno_ hk hS (fun q h => Nat.le_trans hS.1 h) (fun q h => Nat.le_trans hk.N h) (fun q h => h) (fun Ex h => h) ⟨Nat.le_of_ble_eq_true rfl, Nat.le_of_ble_eq_true rfl⟩ (fun locs hB2 hS => ?_)
  have hj1 : (j).toNat < gN S := by omega
  refine g_getN X hk (v := .int (iI (gOff S ((j).toNat)))) (host := "Greenwave") in_X2 rfl (GP.J hP hj1) 4 (by decide) 4 rfl (rfl) dX1_offset_5 ?_
  exact vx_ret (g_iret X hS (⟨by unfold erJ; rw [if_pos hB2], rfl, hP⟩) ⟨Nat.le_of_ble_eq_true rfl, Nat.le_of_ble_eq_true rfl⟩ dX1_offset_8)
set_option maxHeartbeats 4000000 in
theorem p_queue (l : Launch) (E : EP) (hst : l.stackTraces = false) (ad : Nat → Nat → Nat) (S : GS) (j : Int) (H : Heap) (hP : GP E ad S H) (hI : gI S) (hj : -2147483648 ≤ j ∧ j ≤ 2147483647) : gCi l E yX1_queue cX1_queue 2 .int 8 1 6 H [.ref (ad 6 0), .int (iI j)] (nA H) (fun z H1 => erJ S j = 0 ∧ z = gQue S (j.toNat) ∧ GP E ad S H1) (xC (erJ S j) [nIx]) := by
  refine g_metX (by decide) (Nat.le_of_ble_eq_true rfl) (fun P_ e_ s M_ bl mt_ c_ ls X hno_ hk hh hl => ?_)
  subst hh
  have X : gX P_ s M_ mt_ c_ cX1_queue 2 ([.ref (ad 6 0), .int (iI j)] : List Value).toArray RX1 (some .int) := X
  have hl : lv_has ls 2 [(0, .ref (ad 6 0)), (1, .int (iI j))] := hl
  have hS : va_S (nA s.heap) s.heap s.heap [] := va_S.rf
  have hN0 : eN E ≤ s.heap.size := hk.N
  have hA0_ := GP.lts hP
  have hn5 := hI.1.1
  have hc := hI.2.1
  refine g_aload_n X dX1_queue_0 rfl hl 0 rfl ?_
  refine g_iload_n X dX1_queue_1 rfl hl 1 rfl ?_
  refine g_xcallrE (g_xrunV X hk (As := [.int (iI j)]) (rest := []) rfl (GP.X hP) (p_junctionAt l E hst ad S j s.heap hP hI (by omega)) 1 (lw_V q301 q303 qs3 q46 q304) (by decide +kernel) ⟨⟨Nat.le_of_ble_eq_true rfl, Nat.le_of_ble_eq_true rfl⟩, Nat.le_of_ble_eq_true rfl, Nat.le_of_ble_eq_true rfl⟩ rfl rfl hl.1 (Nat.le_of_ble_eq_true rfl) dX1_queue_2) X hno_ hk hS (fun q h => Nat.le_trans hS.1 h) (fun q h => Nat.le_trans hk.N h) (fun q h => h) (fun Ex h => h) ⟨Nat.le_of_ble_eq_true rfl, Nat.le_of_ble_eq_true rfl⟩ (fun locs hB2 hS => ?_)
  have hj1 : (j).toNat < gN S := by omega
  refine g_getN X hk (v := .int (iI (gQue S ((j).toNat)))) (host := "Greenwave") in_X2 rfl (GP.J hP hj1) 9 (by decide) 9 rfl (rfl) dX1_queue_5 ?_
  exact vx_ret (g_iret X hS (⟨by unfold erJ; rw [if_pos hB2], rfl, hP⟩) ⟨Nat.le_of_ble_eq_true rfl, Nat.le_of_ble_eq_true rfl⟩ dX1_queue_8)
set_option maxHeartbeats 4000000 in
theorem p_held (l : Launch) (E : EP) (hst : l.stackTraces = false) (ad : Nat → Nat → Nat) (S : GS) (j : Int) (H : Heap) (hP : GP E ad S H) (hI : gI S) (hj : -2147483648 ≤ j ∧ j ≤ 2147483647) : gCi l E yX1_held cX1_held 2 .int 8 1 6 H [.ref (ad 6 0), .int (iI j)] (nA H) (fun z H1 => erH S j = 0 ∧ z = gTrv S (j.toNat) + gQue S ((j.toNat) + 1) ∧ GP E ad S H1) (xC (erH S j) [nIx]) := by
  refine g_metX (by decide) (Nat.le_of_ble_eq_true rfl) (fun P_ e_ s M_ bl mt_ c_ ls X hno_ hk hh hl => ?_)
  subst hh
  have X : gX P_ s M_ mt_ c_ cX1_held 2 ([.ref (ad 6 0), .int (iI j)] : List Value).toArray RX1 (some .int) := X
  have hl : lv_has ls 2 [(0, .ref (ad 6 0)), (1, .int (iI j))] := hl
  have hS : va_S (nA s.heap) s.heap s.heap [] := va_S.rf
  have hN0 : eN E ≤ s.heap.size := hk.N
  have hA0_ := GP.lts hP
  have hn5 := hI.1.1
  have hc := hI.2.1
  refine g_aload_n X dX1_held_0 rfl hl 0 rfl ?_
  refine g_iload_n X dX1_held_1 rfl hl 1 rfl ?_
  refine g_xcallrE (g_xrunV X hk (As := [.int (iI j)]) (rest := []) rfl (GP.X hP) (p_linkedAt l E hst ad S j s.heap hP hI (by omega)) 1 (lw_V q374 q376 qs4 q46 q377) (by decide +kernel) ⟨⟨Nat.le_of_ble_eq_true rfl, Nat.le_of_ble_eq_true rfl⟩, Nat.le_of_ble_eq_true rfl, Nat.le_of_ble_eq_true rfl⟩ rfl rfl hl.1 (Nat.le_of_ble_eq_true rfl) dX1_held_2) X hno_ hk hS (fun q h => Nat.le_trans hS.1 h) (fun q h => Nat.le_trans hk.N h) (fun q h => h) (fun Ex h => h) ⟨Nat.le_of_ble_eq_true rfl, Nat.le_of_ble_eq_true rfl⟩ (fun locs hB2 hS => ?_)
  have hj1 : (j).toNat < gN S := by omega
  refine g_pop X dX1_held_5 rfl ?_
  have ev1 : j = (((j.toNat) : Nat) : Int) := by omega
  rw [ev1] at hl
  have hl : lv_has ls 2 [(0, .ref (ad 6 0)), (1, .int (iI (((j.toNat) : Nat) : Int)))] := hl
  refine g_aload_n X dX1_held_6 rfl hl 0 rfl ?_
  refine g_iload_n X dX1_held_7 rfl hl 1 rfl ?_
  refine g_pV X hk (As := [.int (iI (((j.toNat) : Nat) : Int))]) (rest := []) rfl (GP.X hP) (p_heldBehind l E ad S s.heap hP (by omega) (j.toNat) (by omega)) 1 (lw_V q542 q544 qs13 q46 q545) (by decide +kernel) ⟨⟨Nat.le_of_ble_eq_true rfl, Nat.le_of_ble_eq_true rfl⟩, Nat.le_of_ble_eq_true rfl, Nat.le_of_ble_eq_true rfl⟩ rfl rfl hl.1 (Nat.le_of_ble_eq_true rfl) dX1_held_8 ?_
  exact vx_ret (g_iret X hS (⟨by unfold erH; rw [if_pos hB2], rfl, hP⟩) ⟨Nat.le_of_ble_eq_true rfl, Nat.le_of_ble_eq_true rfl⟩ dX1_held_11)
set_option maxHeartbeats 4000000 in
theorem p_clearing1 (l : Launch) (E : EP) (hst : l.stackTraces = false) (ad : Nat → Nat → Nat) (S : GS) (j p : Int) (H : Heap) (hP : GP E ad S H) (hI : gI S) (hj : -2147483648 ≤ j ∧ j ≤ 2147483647) (hp : -2147483648 ≤ p ∧ p ≤ 2147483647) : gCi l E yX1_clearing cX1_clearing 4 .int 8 2 12 H [.ref (ad 6 0), .int (iI j), .int (iI p)] (nA H) (fun z H1 => erK S j p = 0 ∧ z = clr S (j.toNat) p.toNat ∧ GP E ad S H1) (xC (erK S j p) [nIx]) := by
  refine g_metX (by decide) (Nat.le_of_ble_eq_true rfl) (fun P_ e_ s M_ bl mt_ c_ ls X hno_ hk hh hl => ?_)
  subst hh
  have X : gX P_ s M_ mt_ c_ cX1_clearing 4 ([.ref (ad 6 0), .int (iI j), .int (iI p)] : List Value).toArray RX1 (some .int) := X
  have hl : lv_has ls 4 [(0, .ref (ad 6 0)), (1, .int (iI j)), (2, .int (iI p))] := hl
  have hS : va_S (nA s.heap) s.heap s.heap [] := va_S.rf
  have hN0 : eN E ≤ s.heap.size := hk.N
  have hA0_ := GP.lts hP
  have hn5 := hI.1.1
  have hc := hI.2.1
  refine g_aload_n X dX1_clearing_0 rfl hl 0 rfl ?_
  refine g_iload_n X dX1_clearing_1 rfl hl 1 rfl ?_
  refine g_xcallrE (g_xrunV X hk (As := [.int (iI j)]) (rest := []) rfl (GP.X hP) (p_junctionAt l E hst ad S j s.heap hP hI (by omega)) 1 (lw_V q301 q303 qs3 q46 q304) (by decide +kernel) ⟨⟨Nat.le_of_ble_eq_true rfl, Nat.le_of_ble_eq_true rfl⟩, Nat.le_of_ble_eq_true rfl, Nat.le_of_ble_eq_true rfl⟩ rfl rfl hl.1 (Nat.le_of_ble_eq_true rfl) dX1_clearing_2) X hno_ hk hS (fun q h => Nat.le_trans hS.1 h) (fun q h => Nat.le_trans hk.N h) (fun q h => h) (fun Ex h => by obtain ⟨h1, rfl⟩ := h.one; exact ⟨0, by unfold erK; revert h1; unfold erJ; grind, rfl⟩) ⟨Nat.le_of_ble_eq_true rfl, Nat.le_of_ble_eq_true rfl⟩ (fun locs hB2 hS => ?_)
  have hj1 : (j).toNat < gN S := by omega
  refine g_astore_n (lv' := [(3, .ref (ad 0 ((j).toNat))), (0, .ref (ad 6 0)), (1, .int (iI j)), (2, .int (iI p))]) X dX1_clearing_5 rfl hl (by decide) rfl (fun ls hl => ?_)
  refine g_aload_n X dX1_clearing_6 rfl hl 0 rfl ?_
  refine g_iload_n X dX1_clearing_7 rfl hl 3 rfl ?_
  refine g_xcallvE (g_xrunS X hk (As := [.ref (ad 0 ((j).toNat)), .int (iI p)]) (rest := []) (p_requirePhase l E hst ad S ((j).toNat) p s.heap hP hI hj1 (by omega)) 2 (lw_S q465 q466 q46 q467) (by decide +kernel) ⟨⟨Nat.le_of_ble_eq_true rfl, Nat.le_of_ble_eq_true rfl⟩, Nat.le_of_ble_eq_true rfl, Nat.le_of_ble_eq_true rfl⟩ rfl rfl hl.1 (Nat.le_of_ble_eq_true rfl) dX1_clearing_8) X hno_ hk hS (fun q h => Nat.le_trans hS.1 h) (fun q h => Nat.le_trans hk.N h) (fun q h => h) (fun Ex h => by obtain ⟨h1, rfl⟩ := h.one; exact ⟨0, by unfold erK; revert h1; unfold erQ; grind, rfl⟩) ⟨Nat.le_of_ble_eq_true rfl, Nat.le_of_ble_eq_true rfl⟩ (fun locs hB8 hS => ?_)
  have ev2 : p = ((p.toNat : Nat) : Int) := by omega
  rw [ev2] at hl
  have hl : lv_has ls 4 [(3, .ref (ad 0 ((j).toNat))), (0, .ref (ad 6 0)), (1, .int (iI j)), (2, .int (iI ((p.toNat : Nat) : Int)))] := hl
  refine g_aload_n X dX1_clearing_11 rfl hl 0 rfl ?_
  refine g_iload_n X dX1_clearing_12 rfl hl 3 rfl ?_
  refine g_pV X hk (As := [.int (iI ((p.toNat : Nat) : Int))]) (rest := []) rfl (GP.J hP hj1) (p_clearing l E ad S s.heap hP hI ((j).toNat) hj1 p.toNat (by omega)) 1 (lw_V q479 q405 q406 q47 q407) (by decide +kernel) ⟨⟨Nat.le_of_ble_eq_true rfl, Nat.le_of_ble_eq_true rfl⟩, Nat.le_of_ble_eq_true rfl, Nat.le_of_ble_eq_true rfl⟩ rfl rfl hl.1 (Nat.le_of_ble_eq_true rfl) dX1_clearing_13 ?_
  exact vx_ret (g_iret X hS (⟨by unfold erK; rw [if_pos ⟨hB2, hB8⟩], rfl, hP⟩) ⟨Nat.le_of_ble_eq_true rfl, Nat.le_of_ble_eq_true rfl⟩ dX1_clearing_16)
set_option maxHeartbeats 4000000 in
theorem p_green (l : Launch) (E : EP) (hst : l.stackTraces = false) (ad : Nat → Nat → Nat) (S : GS) (j p : Int) (H : Heap) (hP : GP E ad S H) (hI : gI S) (hj : -2147483648 ≤ j ∧ j ≤ 2147483647) (hp : -2147483648 ≤ p ∧ p ≤ 2147483647) : gCi l E yX1_green cX1_green 3 .int 9 5 40 H [.ref (ad 6 0), .int (iI j), .int (iI p)] (nA H) (fun z H1 => erG S j p = 0 ∧ z = grn S (j.toNat) p.toNat ∧ GP E ad S H1) (xC (erG S j p) [nIx, nSt]) := by
  refine g_metX (by decide) (Nat.le_of_ble_eq_true rfl) (fun P_ e_ s M_ bl mt_ c_ ls X hno_ hk hh hl => ?_)
  subst hh
  have X : gX P_ s M_ mt_ c_ cX1_green 3 ([.ref (ad 6 0), .int (iI j), .int (iI p)] : List Value).toArray RX1 (some .int) := X
  have hl : lv_has ls 3 [(0, .ref (ad 6 0)), (1, .int (iI j)), (2, .int (iI p))] := hl
  have hS : va_S (nA s.heap) s.heap s.heap [] := va_S.rf
  have hN0 : eN E ≤ s.heap.size := hk.N
  have hA0_ := GP.lts hP
  have hn5 := hI.1.1
  have hc := hI.2.1
  refine g_aload_n X dX1_green_0 rfl hl 0 rfl ?_
  refine g_iload_n X dX1_green_1 rfl hl 1 rfl ?_
  refine g_xcallrE (g_xrunV X hk (As := [.int (iI j)]) (rest := []) rfl (GP.X hP) (p_junctionAt l E hst ad S j s.heap hP hI (by omega)) 1 (lw_V q301 q303 qs3 q46 q304) (by decide +kernel) ⟨⟨Nat.le_of_ble_eq_true rfl, Nat.le_of_ble_eq_true rfl⟩, Nat.le_of_ble_eq_true rfl, Nat.le_of_ble_eq_true rfl⟩ rfl rfl hl.1 (Nat.le_of_ble_eq_true rfl) dX1_green_2) X hno_ hk hS (fun q h => Nat.le_trans hS.1 h) (fun q h => Nat.le_trans hk.N h) (fun q h => h) (fun Ex h => by obtain ⟨h1, rfl⟩ := h.one; exact ⟨0, by unfold erG; revert h1; unfold erJ; grind, rfl⟩) ⟨Nat.le_of_ble_eq_true rfl, Nat.le_of_ble_eq_true rfl⟩ (fun locs hB2 hS => ?_)
  have hj1 : (j).toNat < gN S := by omega
  refine g_iload_n X dX1_green_5 rfl hl 2 rfl ?_
  refine g_xcallvE (g_xrunS X hk (As := [.ref (ad 0 ((j).toNat)), .int (iI p)]) (rest := []) (p_requirePhase l E hst ad S ((j).toNat) p s.heap hP hI hj1 (by omega)) 2 (lw_S q465 q466 q46 q467) (by decide +kernel) ⟨⟨Nat.le_of_ble_eq_true rfl, Nat.le_of_ble_eq_true rfl⟩, Nat.le_of_ble_eq_true rfl, Nat.le_of_ble_eq_true rfl⟩ rfl rfl hl.1 (Nat.le_of_ble_eq_true rfl) dX1_green_6) X hno_ hk hS (fun q h => Nat.le_trans hS.1 h) (fun q h => Nat.le_trans hk.N h) (fun q h => h) (fun Ex h => by obtain ⟨h1, rfl⟩ := h.one; exact ⟨0, by unfold erG; revert h1; unfold erQ; grind, rfl⟩) ⟨Nat.le_of_ble_eq_true rfl, Nat.le_of_ble_eq_true rfl⟩ (fun locs hB6 hS => ?_)
  refine g_aload_n X dX1_green_9 rfl hl 0 rfl ?_
  refine g_iload_n X dX1_green_10 rfl hl 1 rfl ?_
  refine g_xcallrE (g_xrunV X hk (As := [.int (iI j)]) (rest := []) rfl (GP.X hP) (p_planned l E hst ad S j s.heap hP hI (by omega)) 1 (lw_V q468 q470 qs11 q46 q471) (by decide +kernel) ⟨⟨Nat.le_of_ble_eq_true rfl, Nat.le_of_ble_eq_true rfl⟩, Nat.le_of_ble_eq_true rfl, Nat.le_of_ble_eq_true rfl⟩ rfl rfl hl.1 (Nat.le_of_ble_eq_true rfl) dX1_green_11) X hno_ hk hS (fun q h => Nat.le_trans hS.1 h) (fun q h => Nat.le_trans hk.N h) (fun q h => h) (fun Ex h => by rcases h.two with ⟨h1, rfl⟩ | ⟨h1, rfl⟩; exact ⟨0, by unfold erG; revert h1; unfold erN; grind, rfl⟩; exact ⟨1, by unfold erG; revert h1; unfold erN; grind, rfl⟩) ⟨Nat.le_of_ble_eq_true rfl, Nat.le_of_ble_eq_true rfl⟩ (fun locs hB11 hS => ?_)
  have hj2 : (j).toNat < gN S := by omega
  have hL := hB11.2
  have hnp := (hI.2.2 (j.toNat) hj1).1
  have hs0_ := hS.1
  refine g_callr (g_runV X hk (As := []) (rest := []) rfl (GP.J hP hj2) (p_greens l E ad S s.heap hP hI ((j).toNat) hj2 (hL)) 0 (lw_V q421 q422 q423 q47 q424) (by decide +kernel) ⟨⟨Nat.le_of_ble_eq_true rfl, Nat.le_of_ble_eq_true rfl⟩, Nat.le_of_ble_eq_true rfl, Nat.le_of_ble_eq_true rfl⟩ rfl rfl hl.1 (Nat.le_of_ble_eq_true rfl) dX1_green_14) hk hS (fun q h => Nat.le_trans hS.1 h) (fun q h => Nat.le_trans hk.N h) (fun q14 H locs hP_ hk hz_ ho_ hS => ?_)
  replace ho_ := lk_nA (fun q h => h) ho_
  obtain ⟨h14_0, h14⟩ := hP_
  have h14_g : s.heap.size ≤ q14 := by omega
  have lk_ := lk_new (s0 := s.heap.size) ho_
  have hP := GP.new hP ho_
  refine g_iload_n X dX1_green_17 rfl hl 2 rfl ?_
  refine g_ialdv X hk (j := p.toNat) (n := (gNp S ((j).toNat))) (f := (grn S ((j).toNat))) (v := ((grn S ((j).toNat)) p.toNat)) h14 (by omega) (by omega) (rfl) dX1_green_18 ?_
  exact vx_ret (g_iret X hS (⟨by unfold erG; rw [if_neg (fun q => q ⟨hB2, hB6⟩), if_pos hL], rfl, hP⟩) ⟨Nat.le_of_ble_eq_true rfl, Nat.le_of_ble_eq_true rfl⟩ dX1_green_19)
set_option maxHeartbeats 4000000 in
theorem p_isGreen (l : Launch) (E : EP) (hst : l.stackTraces = false) (ad : Nat → Nat → Nat) (S : GS) (j v t : Int) (H : Heap) (hP : GP E ad S H) (hI : gI S) (hj : -2147483648 ≤ j ∧ j ≤ 2147483647) (hv : -2147483648 ≤ v ∧ v ≤ 2147483647) (ht : -2147483648 ≤ t ∧ t ≤ 2147483647) : gCi l E yX1_isGreen cX1_isGreen 5 .boolean 9 6 130 H [.ref (ad 6 0), .int (iI j), .int (iI v), .int (iI t)] (nA H) (fun z H1 => erS S j v t = 0 ∧ z = bZ (gAt S (j.toNat) v t) ∧ GP E ad S H1) (xC (erS S j v t) [nIx, nAr, nSt]) := by
  refine g_metX (by decide) (Nat.le_of_ble_eq_true rfl) (fun P_ e_ s M_ bl mt_ c_ ls X hno_ hk hh hl => ?_)
  subst hh
  have X : gX P_ s M_ mt_ c_ cX1_isGreen 5 ([.ref (ad 6 0), .int (iI j), .int (iI v), .int (iI t)] : List Value).toArray RX1 (some .boolean) := X
  have hl : lv_has ls 5 [(0, .ref (ad 6 0)), (1, .int (iI j)), (2, .int (iI v)), (3, .int (iI t))] := hl
  have hS : va_S (nA s.heap) s.heap s.heap [] := va_S.rf
  have hN0 : eN E ≤ s.heap.size := hk.N
  have hA0_ := GP.lts hP
  have hn5 := hI.1.1
  have hc := hI.2.1
  have alV_eq := alV1 v
  refine g_aload_n X dX1_isGreen_0 rfl hl 0 rfl ?_
  refine g_iload_n X dX1_isGreen_1 rfl hl 1 rfl ?_
  refine g_iconst X dX1_isGreen_2 ?_
  have hs0_ := hS.1
  refine g_newI X hk hS (N := 1) (by first | rfl | omega) (by omega) ⟨Nat.le_of_ble_eq_true rfl, Nat.le_of_ble_eq_true rfl⟩ dX1_isGreen_3 (fun qv H hq_ hc_ hk hz_ ho_ hS => ?_)
  have hV : ce E qv (aI E 1 (fun _ => 0)) H := hc_
  have hV_g : s.heap.size ≤ qv := by omega
  have lk_ := lk_new (s0 := s.heap.size) ho_
  have hP := GP.new hP ho_
  refine g_dup X dX1_isGreen_5 rfl ?_
  refine g_iconst X dX1_isGreen_6 ?_
  refine g_iload_n X dX1_isGreen_7 rfl hl 2 rfl ?_
  refine g_iast X hk hS ⟨hV_g, Nat.le_trans hN0 hV_g⟩ (j := 0) (n := 1) (f := (fun _ => 0)) hV (rfl) (by omega) dX1_isGreen_8 (fun H locs hc_ hk hz_ ho_ hS => ?_)
  have hP := GP.loc hP hA0_ hV_g ho_
  have hV : ce E qv (aI E 1 (uI (fun _ => 0) 0 v)) H := hc_
  refine g_xcallrE (g_xrunV X hk (As := [.int (iI j), .ref qv]) (rest := []) rfl (GP.X hP) (p_junctionWith l E hst ad S j qv 1 (uI (fun _ => 0) 0 v) H hP hI (by omega) hV (by omega) (by intro i hi; simp [uI, show i = 0 by omega]; omega)) 2 (lw_V q297 q299 qs2 q46 q300) (by decide +kernel) ⟨⟨Nat.le_of_ble_eq_true rfl, Nat.le_of_ble_eq_true rfl⟩, Nat.le_of_ble_eq_true rfl, Nat.le_of_ble_eq_true rfl⟩ rfl rfl hl.1 (Nat.le_of_ble_eq_true rfl) dX1_isGreen_9) X hno_ hk hS (fun q h => Nat.le_trans hS.1 h) (fun q h => Nat.le_trans hk.N h) (fun q h => h) (fun Ex h => by obtain ⟨h1, rfl⟩ := h.one; exact ⟨0, by unfold erS; revert h1; unfold erW; rw [alV_eq]; grind, rfl⟩) ⟨Nat.le_of_ble_eq_true rfl, Nat.le_of_ble_eq_true rfl⟩ (fun locs hB9 hS => ?_)
  have hj1 : (j).toNat < gN S := by omega
  have h9 : 0 ≤ v ∧ v ≤ 3 := by have := hB9.2; rw [alV_eq] at this; exact of_decide_eq_true this
  skip
  refine g_astore (lv' := [(4, .ref (ad 0 ((j).toNat))), (0, .ref (ad 6 0)), (1, .int (iI j)), (2, .int (iI v)), (3, .int (iI t))]) X dX1_isGreen_12 hl (by decide) rfl (fun ls hl => ?_)
  refine g_iload_n X dX1_isGreen_14 rfl hl 4 rfl ?_
  refine g_iconst X dX1_isGreen_15 ?_
  refine g_ldc (n := 100000) X q494 dX1_isGreen_16 ?_
  refine g_pS X hk (As := [.int (iI t), .int (iI 0), .int (iI 100000)]) (rest := []) (p_inRange l E t 0 100000 H (by omega) (by omega) (by omega)) 3 (lw_S q185 q186 q46 q187) (by decide +kernel) ⟨⟨Nat.le_of_ble_eq_true rfl, Nat.le_of_ble_eq_true rfl⟩, Nat.le_of_ble_eq_true rfl, Nat.le_of_ble_eq_true rfl⟩ rfl rfl hl.1 (Nat.le_of_ble_eq_true rfl) dX1_isGreen_18 ?_
  have h21 := bZ_le (decide (0 ≤ t ∧ t ≤ 100000))
  refine (show (bZ (decide (0 ≤ t ∧ t ≤ 100000))) = 0 ∨ (bZ (decide (0 ≤ t ∧ t ≤ 100000))) = 1 by omega).elim (fun z21 => ?_) (fun z21 => ?_)
  · exact g_thxS X hno_ hk (As := [.int (iI (bZ (decide (0 ≤ t ∧ t ≤ 100000))))]) (rest := []) (rq_Argument_t l E hst H (bZ (decide (0 ≤ t ∧ t ≤ 100000))) z21) 1 (lw_S q188 q189 q46 q190) (by decide +kernel) ⟨⟨Nat.le_of_ble_eq_true rfl, Nat.le_of_ble_eq_true rfl⟩, Nat.le_of_ble_eq_true rfl, Nat.le_of_ble_eq_true rfl⟩ rfl rfl hl.1 (Nat.le_of_ble_eq_true rfl) dX1_isGreen_21 hS (fun q h => h) (⟨1, by unfold erS; grind [bZ], rfl⟩) ⟨Nat.le_of_ble_eq_true rfl, Nat.le_of_ble_eq_true rfl⟩
  refine g_callE (g_runS X hk (As := [.int (iI (bZ (decide (0 ≤ t ∧ t ≤ 100000))))]) (rest := []) (rq_Argument l E H (bZ (decide (0 ≤ t ∧ t ≤ 100000))) z21) 1 (lw_S q188 q189 q46 q190) (by decide +kernel) ⟨⟨Nat.le_of_ble_eq_true rfl, Nat.le_of_ble_eq_true rfl⟩, Nat.le_of_ble_eq_true rfl, Nat.le_of_ble_eq_true rfl⟩ rfl rfl hl.1 (Nat.le_of_ble_eq_true rfl) dX1_isGreen_21) ?_
  have h21 : 0 ≤ t ∧ t ≤ 100000 := by grind [bZ]
  have join_37 : gHide (∀ (z : Int) (ls : Array Slot), z = (bZ (decide (0 ≤ lft S (j.toNat)))) → lv_has ls 5 [(4, .ref (ad 0 ((j).toNat))), (0, .ref (ad 6 0)), (1, .int (iI j)), (2, .int (iI v)), (3, .int (iI t))] → W P_ l e_ (gR 9 6 130) s M_ ([.ref (ad 6 0), .int (iI j), .int (iI v), .int (iI t)] : List Value).toArray bl mt_ c_ H locs ((0 + 1) + 2) ((0 + 1) + 12) (vx_MQ bl (gQi (nA s.heap) (fun z H1 => erS S j v t = 0 ∧ z = bZ (gAt S (j.toNat) v t) ∧ GP E ad S H1)) (gXD (xC (erS S j v t) [nIx, nAr, nSt])) ([.ref (ad 6 0), .int (iI j), .int (iI v), .int (iI t)] : List Value).toArray s 6 130 (nA s.heap)) (F0 M_ 37 ls [.int (iI z)])) := by
    intro z ls e_z hl
    subst e_z
    have hl : lv_has ls 5 [(4, .ref (ad 0 ((j).toNat))), (0, .ref (ad 6 0)), (1, .int (iI j)), (2, .int (iI v)), (3, .int (iI t))] := hl
    have hz37 := bZ_le (decide (0 ≤ lft S (j.toNat)))
    refine (show (bZ (decide (0 ≤ lft S (j.toNat)))) = 0 ∨ (bZ (decide (0 ≤ lft S (j.toNat)))) = 1 by omega).elim (fun z37 => ?_) (fun z37 => ?_)
    · exact g_thxS X hno_ hk (As := [.int (iI (bZ (decide (0 ≤ lft S (j.toNat)))))]) (rest := []) (rq_State_t l E hst H (bZ (decide (0 ≤ lft S (j.toNat)))) z37) 1 (lw_S q326 q327 q46 q328) (by decide +kernel) ⟨⟨Nat.le_of_ble_eq_true rfl, Nat.le_of_ble_eq_true rfl⟩, Nat.le_of_ble_eq_true rfl, Nat.le_of_ble_eq_true rfl⟩ rfl rfl hl.1 (Nat.le_of_ble_eq_true rfl) dX1_isGreen_37 hS (fun q h => h) (⟨2, by unfold erS; grind [bZ], rfl⟩) ⟨Nat.le_of_ble_eq_true rfl, Nat.le_of_ble_eq_true rfl⟩
    refine g_callE (g_runS X hk (As := [.int (iI (bZ (decide (0 ≤ lft S (j.toNat)))))]) (rest := []) (rq_State l E H (bZ (decide (0 ≤ lft S (j.toNat)))) z37) 1 (lw_S q326 q327 q46 q328) (by decide +kernel) ⟨⟨Nat.le_of_ble_eq_true rfl, Nat.le_of_ble_eq_true rfl⟩, Nat.le_of_ble_eq_true rfl, Nat.le_of_ble_eq_true rfl⟩ rfl rfl hl.1 (Nat.le_of_ble_eq_true rfl) dX1_isGreen_37) ?_
    have hL : 0 ≤ lft S (j.toNat) := by grind [bZ]
    refine g_aload_n X dX1_isGreen_40 rfl hl 1 rfl ?_
    refine g_aload X dX1_isGreen_41 hl 0 rfl ?_
    refine g_iload_n X dX1_isGreen_43 rfl hl 3 rfl ?_
    have hs0_ := hS.1
    refine g_callr (g_runV X hk (As := [.ref (ad 0 ((j).toNat)), .int (iI v)]) (rest := []) rfl (GP.X hP) (p_greensOf l E ad S H hP hI ((j).toNat) hj1 (hL) v) 2 (lw_V q417 q419 qs7 q46 q420) (by decide +kernel) ⟨⟨Nat.le_of_ble_eq_true rfl, Nat.le_of_ble_eq_true rfl⟩, Nat.le_of_ble_eq_true rfl, Nat.le_of_ble_eq_true rfl⟩ rfl rfl hl.1 (Nat.le_of_ble_eq_true rfl) dX1_isGreen_44) hk hS (fun q h => Nat.le_trans hS.1 h) (fun q h => Nat.le_trans hk.N h) (fun qb H locs hP_ hk hz_ ho_ hS => ?_)
    replace ho_ := lk_nA (fun q h => h) ho_
    obtain ⟨hB_0, hB⟩ := hP_
    have hB_g : s.heap.size ≤ qb := by omega
    have lk_ := lk_new (s0 := s.heap.size) ho_
    have hP := GP.new hP ho_
    refine g_aload X dX1_isGreen_47 hl 0 rfl ?_
    refine g_iload_n X dX1_isGreen_49 rfl hl 4 rfl ?_
    refine g_pV X hk (As := [.int (iI t)]) (rest := [.ref qb]) rfl (GP.J hP hj1) (p_placeIn l E ad S H hP hI ((j).toNat) hj1 t (by omega)) 1 (lw_V q442 q443 q444 q47 q445) (by decide +kernel) ⟨⟨Nat.le_of_ble_eq_true rfl, Nat.le_of_ble_eq_true rfl⟩, Nat.le_of_ble_eq_true rfl, Nat.le_of_ble_eq_true rfl⟩ rfl rfl hl.1 (Nat.le_of_ble_eq_true rfl) dX1_isGreen_50 ?_
    have hem := em_b (t - gOff S (j.toNat)) (gCyc S) hc.1
    refine g_baldv X hk (j := (((t - gOff S ((j).toNat)) % gCyc S)).toNat) (n := (gCyc S).toNat) (f := (fun p => bZ (gAtP S ((j).toNat) v (p : Int)))) (v := (bZ (gAt S (j.toNat) v t))) hB (by omega) (by omega) (by show bZ (gAtP S (j.toNat) v _) = _; rw [Int.toNat_of_nonneg hem.1]; rfl) dX1_isGreen_53 ?_
    exact vx_ret (g_zret X (by first | exact bZ_le _ | omega) hS (⟨by unfold erS; rw [if_neg (fun q => q ⟨hB9.1, h9⟩), if_neg (fun q => q h21), if_pos hL], rfl, hP⟩) ⟨Nat.le_of_ble_eq_true rfl, Nat.le_of_ble_eq_true rfl⟩ dX1_isGreen_54)
  refine g_aload X dX1_isGreen_24 hl 0 rfl ?_
  refine g_pV X hk (As := []) (rest := []) rfl (GP.J hP hj1) (p_left l E ad S H hP hI ((j).toNat) hj1) 0 (lw_V q396 q397 q398 q47 q399) (by decide +kernel) ⟨⟨Nat.le_of_ble_eq_true rfl, Nat.le_of_ble_eq_true rfl⟩, Nat.le_of_ble_eq_true rfl, Nat.le_of_ble_eq_true rfl⟩ rfl rfl hl.1 (Nat.le_of_ble_eq_true rfl) dX1_isGreen_26 ?_
  have h29 := lft_b hI hj1
  refine g_if_lt X dX1_isGreen_29 (tgt := 36) (by decide) (by omega) (fun c29 => ?_) (fun c29 => ?_)
  · refine g_iconst X dX1_isGreen_36 ?_
    exact join_37.out 0 _ (by grind [bZ]) (lv_sub hl [0, 1, 2, 3, 4] rfl)
  · refine g_iconst X dX1_isGreen_32 ?_
    refine g_goto X dX1_isGreen_33 (tgt := 37) (by decide) ?_
    exact join_37.out 1 _ (by grind [bZ]) (lv_sub hl [0, 1, 2, 3, 4] rfl)
set_option maxHeartbeats 4000000 in
theorem p_phaseNow (l : Launch) (E : EP) (hst : l.stackTraces = false) (ad : Nat → Nat → Nat) (S : GS) (j : Int) (H : Heap) (hP : GP E ad S H) (hI : gI S) (hj : -2147483648 ≤ j ∧ j ≤ 2147483647) : gCi l E yX1_phaseNow cX1_phaseNow 3 .int 9 3 16 H [.ref (ad 6 0), .int (iI j)] (nA H) (fun z H1 => erN S j = 0 ∧ z = phN S (j.toNat) (grn S (j.toNat)) (gNow S) ∧ GP E ad S H1) (xC (erN S j) [nIx, nSt]) := by
  refine g_metX (by decide) (Nat.le_of_ble_eq_true rfl) (fun P_ e_ s M_ bl mt_ c_ ls X hno_ hk hh hl => ?_)
  subst hh
  have X : gX P_ s M_ mt_ c_ cX1_phaseNow 3 ([.ref (ad 6 0), .int (iI j)] : List Value).toArray RX1 (some .int) := X
  have hl : lv_has ls 3 [(0, .ref (ad 6 0)), (1, .int (iI j))] := hl
  have hS : va_S (nA s.heap) s.heap s.heap [] := va_S.rf
  have hN0 : eN E ≤ s.heap.size := hk.N
  have hA0_ := GP.lts hP
  have hn5 := hI.1.1
  have hc := hI.2.1
  have hrun := hI.1.2.1
  have hnow := hI.1.2.2
  refine g_aload_n X dX1_phaseNow_0 rfl hl 0 rfl ?_
  refine g_iload_n X dX1_phaseNow_1 rfl hl 1 rfl ?_
  refine g_xcallrE (g_xrunV X hk (As := [.int (iI j)]) (rest := []) rfl (GP.X hP) (p_planned l E hst ad S j s.heap hP hI (by omega)) 1 (lw_V q468 q470 qs11 q46 q471) (by decide +kernel) ⟨⟨Nat.le_of_ble_eq_true rfl, Nat.le_of_ble_eq_true rfl⟩, Nat.le_of_ble_eq_true rfl, Nat.le_of_ble_eq_true rfl⟩ rfl rfl hl.1 (Nat.le_of_ble_eq_true rfl) dX1_phaseNow_2) X hno_ hk hS (fun q h => Nat.le_trans hS.1 h) (fun q h => Nat.le_trans hk.N h) (fun q h => h) (fun Ex h => h) ⟨Nat.le_of_ble_eq_true rfl, Nat.le_of_ble_eq_true rfl⟩ (fun locs hB2 hS => ?_)
  have hj1 : (j).toNat < gN S := by omega
  refine g_astore_n (lv' := [(2, .ref (ad 0 ((j).toNat))), (0, .ref (ad 6 0)), (1, .int (iI j))]) X dX1_phaseNow_5 rfl hl (by decide) rfl (fun ls hl => ?_)
  have hL := hB2.2
  have hem := em_b (gNow S - gOff S (j.toNat)) (gCyc S) hc.1
  have hch := (hI.2.2 (j.toNat) hj1).2.2.2.2.2.2.2
  have hnp := (hI.2.2 (j.toNat) hj1).1
  have hof := (hI.2.2 (j.toNat) hj1).2.2.2.2.1
  have hg : ∀ i, i < gNp S (j.toNat) → 0 ≤ (if chg S (j.toNat) (gNow S) = true then gCh S (j.toNat) else grn S (j.toNat)) i ∧ (if chg S (j.toNat) (gNow S) = true then gCh S (j.toNat) else grn S (j.toNat)) i ≤ 1000 := by
    intro i hi
    by_cases e : chg S (j.toNat) (gNow S) = true
    · rw [if_pos e]
      have h0 : gChn S (j.toNat) ≠ 0 := by
        have := e
        simp only [chg, decide_eq_true_eq] at this
        omega
      exact hch.2.2 h0 i hi
    · rw [if_neg e]
      have := grn_b hI hj1 hL hi
      omega
  refine g_aload_n X dX1_phaseNow_6 rfl hl 0 rfl ?_
  refine g_aload_n X dX1_phaseNow_7 rfl hl 0 rfl ?_
  refine g_aload_n X dX1_phaseNow_8 rfl hl 1 rfl ?_
  refine g_get X hk (v := .int (iI (gNow S))) in_X1 rfl (GP.X hP) 2 (by decide) q144 (rfl) dX1_phaseNow_9 ?_
  refine g_pV X hk (As := [.int (iI (gNow S))]) (rest := [.ref (ad 0 ((j).toNat))]) rfl (GP.J hP hj1) (p_placeIn l E ad S s.heap hP hI ((j).toNat) hj1 (gNow S) (by omega)) 1 (lw_V q442 q443 q444 q47 q445) (by decide +kernel) ⟨⟨Nat.le_of_ble_eq_true rfl, Nat.le_of_ble_eq_true rfl⟩, Nat.le_of_ble_eq_true rfl, Nat.le_of_ble_eq_true rfl⟩ rfl rfl hl.1 (Nat.le_of_ble_eq_true rfl) dX1_phaseNow_12 ?_
  refine g_aload_n X dX1_phaseNow_15 rfl hl 0 rfl ?_
  refine g_aload_n X dX1_phaseNow_16 rfl hl 1 rfl ?_
  refine g_get X hk (v := .int (iI (gNow S))) in_X1 rfl (GP.X hP) 2 (by decide) q144 (rfl) dX1_phaseNow_17 ?_
  have hs0_ := hS.1
  refine g_callr (g_runV X hk (As := [.int (iI (gNow S))]) (rest := [.int (iI (((gNow S) - gOff S ((j).toNat)) % gCyc S)), .ref (ad 0 ((j).toNat))]) rfl (GP.J hP hj1) (p_greensIn l E ad S s.heap hP hI ((j).toNat) hj1 (hL) (gNow S) (by omega)) 1 (lw_V q572 q573 q574 q47 q575) (by decide +kernel) ⟨⟨Nat.le_of_ble_eq_true rfl, Nat.le_of_ble_eq_true rfl⟩, Nat.le_of_ble_eq_true rfl, Nat.le_of_ble_eq_true rfl⟩ rfl rfl hl.1 (Nat.le_of_ble_eq_true rfl) dX1_phaseNow_20) hk hS (fun q h => Nat.le_trans hS.1 h) (fun q h => Nat.le_trans hk.N h) (fun qg H locs hP_ hk hz_ ho_ hS => ?_)
  replace ho_ := lk_nA (fun q h => h) ho_
  have hG := hP_
  have lk_ := lk_new (s0 := s.heap.size) ho_
  have hP := GP.new hP ho_
  refine g_pV X hk (As := [.int (iI (((gNow S) - gOff S ((j).toNat)) % gCyc S)), .ref qg]) (rest := []) rfl (GP.J hP hj1) (p_phaseAt l E ad S H hP hI ((j).toNat) hj1 (((gNow S) - gOff S ((j).toNat)) % gCyc S) (by omega) qg (if chg S ((j).toNat) (gNow S) = true then gCh S ((j).toNat) else grn S ((j).toNat)) hG hg) 2 (lw_V q430 q431 q432 q47 q433) (by decide +kernel) ⟨⟨Nat.le_of_ble_eq_true rfl, Nat.le_of_ble_eq_true rfl⟩, Nat.le_of_ble_eq_true rfl, Nat.le_of_ble_eq_true rfl⟩ rfl rfl hl.1 (Nat.le_of_ble_eq_true rfl) dX1_phaseNow_23 ?_
  exact vx_ret (g_iret X hS (⟨by unfold erN; rw [if_neg (fun q => q hB2.1), if_pos hL], rfl, hP⟩) ⟨Nat.le_of_ble_eq_true rfl, Nat.le_of_ble_eq_true rfl⟩ dX1_phaseNow_26)
set_option maxHeartbeats 4000000 in
theorem p_setFlow (l : Launch) (E : EP) (hst : l.stackTraces = false) (ad : Nat → Nat → Nat) (S : GS) (j v f : Int) (H : Heap) (hP : GP E ad S H) (hI : gI S) (hj : -2147483648 ≤ j ∧ j ≤ 2147483647) (hv : -2147483648 ≤ v ∧ v ≤ 2147483647) (hf : -2147483648 ≤ f ∧ f ≤ 2147483647) : gCi l E yX1_setFlow cX1_setFlow 6 .int 9 5 30 H [.ref (ad 6 0), .int (iI j), .int (iI v), .int (iI f)] (gW (gN S) ad H) (fun z H1 => erF S j v f = 0 ∧ z = gFl S (j.toNat) v.toNat ∧ GP E ad (gset S 2 (j.toNat) v.toNat f) H1) (xC (erF S j v f) [nIx, nAr, nSt]) := by
  refine g_metX (by decide) (Nat.le_of_ble_eq_true rfl) (fun P_ e_ s M_ bl mt_ c_ ls X hno_ hk hh hl => ?_)
  subst hh
  have X : gX P_ s M_ mt_ c_ cX1_setFlow 6 ([.ref (ad 6 0), .int (iI j), .int (iI v), .int (iI f)] : List Value).toArray RX1 (some .int) := X
  have hl : lv_has ls 6 [(0, .ref (ad 6 0)), (1, .int (iI j)), (2, .int (iI v)), (3, .int (iI f))] := hl
  have hS : va_S (nA s.heap) s.heap s.heap [] := va_S.rf
  have hN0 : eN E ≤ s.heap.size := hk.N
  have hA0_ := GP.lts hP
  have hn5 := hI.1.1
  have hc := hI.2.1
  have hrun := hI.1.2.1
  have hnow := hI.1.2.2
  have alV_eq := alV1 v
  refine g_aload_n X dX1_setFlow_0 rfl hl 0 rfl ?_
  refine g_iload_n X dX1_setFlow_1 rfl hl 1 rfl ?_
  refine g_iconst X dX1_setFlow_2 ?_
  have hs0_ := hS.1
  refine g_newI X hk hS (N := 1) (by first | rfl | omega) (by omega) ⟨Nat.le_of_ble_eq_true rfl, Nat.le_of_ble_eq_true rfl⟩ dX1_setFlow_3 (fun qv H hq_ hc_ hk hz_ ho_ hS => ?_)
  have hV : ce E qv (aI E 1 (fun _ => 0)) H := hc_
  have hV_g : s.heap.size ≤ qv := by omega
  have lk_ := lk_new (s0 := s.heap.size) ho_
  have hP := GP.new hP ho_
  refine g_dup X dX1_setFlow_5 rfl ?_
  refine g_iconst X dX1_setFlow_6 ?_
  refine g_iload_n X dX1_setFlow_7 rfl hl 2 rfl ?_
  refine g_iast X hk hS ⟨hV_g, Nat.le_trans hN0 hV_g⟩ (j := 0) (n := 1) (f := (fun _ => 0)) hV (rfl) (by omega) dX1_setFlow_8 (fun H locs hc_ hk hz_ ho_ hS => ?_)
  have hP := GP.loc hP hA0_ hV_g ho_
  have hV : ce E qv (aI E 1 (uI (fun _ => 0) 0 v)) H := hc_
  refine g_xcallrE (g_xrunV X hk (As := [.int (iI j), .ref qv]) (rest := []) rfl (GP.X hP) (p_junctionWith l E hst ad S j qv 1 (uI (fun _ => 0) 0 v) H hP hI (by omega) hV (by omega) (by intro i hi; simp [uI, show i = 0 by omega]; omega)) 2 (lw_V q297 q299 qs2 q46 q300) (by decide +kernel) ⟨⟨Nat.le_of_ble_eq_true rfl, Nat.le_of_ble_eq_true rfl⟩, Nat.le_of_ble_eq_true rfl, Nat.le_of_ble_eq_true rfl⟩ rfl rfl hl.1 (Nat.le_of_ble_eq_true rfl) dX1_setFlow_9) X hno_ hk hS (fun q h => Nat.le_trans hS.1 h) (fun q h => Nat.le_trans hk.N h) (fun q h => Or.inr h) (fun Ex h => by obtain ⟨h1, rfl⟩ := h.one; exact ⟨0, by unfold erF; revert h1; unfold erW; rw [alV_eq]; grind, rfl⟩) ⟨Nat.le_of_ble_eq_true rfl, Nat.le_of_ble_eq_true rfl⟩ (fun locs hB9 hS => ?_)
  have hj1 : (j).toNat < gN S := by omega
  have h9 : 0 ≤ v ∧ v ≤ 3 := by have := hB9.2; rw [alV_eq] at this; exact of_decide_eq_true this
  skip
  refine g_astore (lv' := [(4, .ref (ad 0 ((j).toNat))), (0, .ref (ad 6 0)), (1, .int (iI j)), (2, .int (iI v)), (3, .int (iI f))]) X dX1_setFlow_12 hl (by decide) rfl (fun ls hl => ?_)
  refine g_iload_n X dX1_setFlow_14 rfl hl 4 rfl ?_
  refine g_iconst X dX1_setFlow_15 ?_
  refine g_sipush X dX1_setFlow_16 rfl ?_
  refine g_pS X hk (As := [.int (iI f), .int (iI 0), .int (iI 1800)]) (rest := []) (p_inRange l E f 0 1800 H (by omega) (by omega) (by omega)) 3 (lw_S q185 q186 q46 q187) (by decide +kernel) ⟨⟨Nat.le_of_ble_eq_true rfl, Nat.le_of_ble_eq_true rfl⟩, Nat.le_of_ble_eq_true rfl, Nat.le_of_ble_eq_true rfl⟩ rfl rfl hl.1 (Nat.le_of_ble_eq_true rfl) dX1_setFlow_19 ?_
  have h22 := bZ_le (decide (0 ≤ f ∧ f ≤ 1800))
  refine (show (bZ (decide (0 ≤ f ∧ f ≤ 1800))) = 0 ∨ (bZ (decide (0 ≤ f ∧ f ≤ 1800))) = 1 by omega).elim (fun z22 => ?_) (fun z22 => ?_)
  · exact g_thxS X hno_ hk (As := [.int (iI (bZ (decide (0 ≤ f ∧ f ≤ 1800))))]) (rest := []) (rq_Argument_t l E hst H (bZ (decide (0 ≤ f ∧ f ≤ 1800))) z22) 1 (lw_S q188 q189 q46 q190) (by decide +kernel) ⟨⟨Nat.le_of_ble_eq_true rfl, Nat.le_of_ble_eq_true rfl⟩, Nat.le_of_ble_eq_true rfl, Nat.le_of_ble_eq_true rfl⟩ rfl rfl hl.1 (Nat.le_of_ble_eq_true rfl) dX1_setFlow_22 hS (fun q h => Or.inr h) (⟨1, by unfold erF; grind [bZ], rfl⟩) ⟨Nat.le_of_ble_eq_true rfl, Nat.le_of_ble_eq_true rfl⟩
  refine g_callE (g_runS X hk (As := [.int (iI (bZ (decide (0 ≤ f ∧ f ≤ 1800))))]) (rest := []) (rq_Argument l E H (bZ (decide (0 ≤ f ∧ f ≤ 1800))) z22) 1 (lw_S q188 q189 q46 q190) (by decide +kernel) ⟨⟨Nat.le_of_ble_eq_true rfl, Nat.le_of_ble_eq_true rfl⟩, Nat.le_of_ble_eq_true rfl, Nat.le_of_ble_eq_true rfl⟩ rfl rfl hl.1 (Nat.le_of_ble_eq_true rfl) dX1_setFlow_22) ?_
  have join_37 : gHide (∀ (z : Int) (ls : Array Slot), z = (bZ (decide (gRun S = 0))) → lv_has ls 6 [(4, .ref (ad 0 ((j).toNat))), (0, .ref (ad 6 0)), (1, .int (iI j)), (2, .int (iI v)), (3, .int (iI f))] → W P_ l e_ (gR 9 5 30) s M_ ([.ref (ad 6 0), .int (iI j), .int (iI v), .int (iI f)] : List Value).toArray bl mt_ c_ H locs ((0 + 1) + 2) ((0 + 1) + 12) (vx_MQ bl (gQi (gW (gN S) ad s.heap) (fun z H1 => erF S j v f = 0 ∧ z = gFl S (j.toNat) v.toNat ∧ GP E ad (gset S 2 (j.toNat) v.toNat f) H1)) (gXD (xC (erF S j v f) [nIx, nAr, nSt])) ([.ref (ad 6 0), .int (iI j), .int (iI v), .int (iI f)] : List Value).toArray s 5 30 (gW (gN S) ad s.heap)) (F0 M_ 37 ls [.int (iI z)])) := by
    intro z ls e_z hl
    subst e_z
    have hl : lv_has ls 6 [(4, .ref (ad 0 ((j).toNat))), (0, .ref (ad 6 0)), (1, .int (iI j)), (2, .int (iI v)), (3, .int (iI f))] := hl
    have hzr := bZ_le (decide (gRun S = 0))
    refine (show (bZ (decide (gRun S = 0))) = 0 ∨ (bZ (decide (gRun S = 0))) = 1 by omega).elim (fun z37 => ?_) (fun z37 => ?_)
    · exact g_thxS X hno_ hk (As := [.int (iI (bZ (decide (gRun S = 0))))]) (rest := []) (rq_State_t l E hst H (bZ (decide (gRun S = 0))) z37) 1 (lw_S q326 q327 q46 q328) (by decide +kernel) ⟨⟨Nat.le_of_ble_eq_true rfl, Nat.le_of_ble_eq_true rfl⟩, Nat.le_of_ble_eq_true rfl, Nat.le_of_ble_eq_true rfl⟩ rfl rfl hl.1 (Nat.le_of_ble_eq_true rfl) dX1_setFlow_37 hS (fun q h => Or.inr h) (⟨2, by unfold erF; grind [bZ], rfl⟩) ⟨Nat.le_of_ble_eq_true rfl, Nat.le_of_ble_eq_true rfl⟩
    refine g_callE (g_runS X hk (As := [.int (iI (bZ (decide (gRun S = 0))))]) (rest := []) (rq_State l E H (bZ (decide (gRun S = 0))) z37) 1 (lw_S q326 q327 q46 q328) (by decide +kernel) ⟨⟨Nat.le_of_ble_eq_true rfl, Nat.le_of_ble_eq_true rfl⟩, Nat.le_of_ble_eq_true rfl, Nat.le_of_ble_eq_true rfl⟩ rfl rfl hl.1 (Nat.le_of_ble_eq_true rfl) dX1_setFlow_37) ?_
    refine g_aload X dX1_setFlow_40 hl 0 rfl ?_
    refine g_getN X hk (v := .ref (ad 2 ((j).toNat))) (host := "Greenwave") in_X2 rfl (GP.J hP hj1) 2 (by decide) 2 rfl (rfl) dX1_setFlow_42 ?_
    refine g_iload_n X dX1_setFlow_45 rfl hl 3 rfl ?_
    refine g_ialdv X hk (j := v.toNat) (n := 4) (f := (gFl S ((j).toNat))) (v := ((gFl S ((j).toNat)) v.toNat)) (GP.F hP hj1) (by omega) (by omega) (rfl) dX1_setFlow_46 ?_
    refine g_istore (lv' := [(5, .int (iI ((gFl S ((j).toNat)) v.toNat))), (4, .ref (ad 0 ((j).toNat))), (0, .ref (ad 6 0)), (1, .int (iI j)), (2, .int (iI v)), (3, .int (iI f))]) X dX1_setFlow_47 hl (by decide) rfl (fun ls hl => ?_)
    refine g_aload X dX1_setFlow_49 hl 1 rfl ?_
    refine g_getN X hk (v := .ref (ad 2 ((j).toNat))) (host := "Greenwave") in_X2 rfl (GP.J hP hj1) 2 (by decide) 2 rfl (rfl) dX1_setFlow_51 ?_
    refine g_iload_n X dX1_setFlow_54 rfl hl 4 rfl ?_
    refine g_iload_n X dX1_setFlow_55 rfl hl 5 rfl ?_
    have hS : va_S (gW (gN S) ad s.heap) s.heap H _ := g_ws hS (fun q h => Or.inr h)
    refine g_iast X hk hS ⟨Or.inl ⟨2, ((j).toNat), gv_0 (by decide) (by omega), rfl⟩, hP.2.2 _ _ (gv_0 (by decide) hj1)⟩ (j := v.toNat) (n := 4) (f := (gFl S ((j).toNat))) (GP.F hP hj1) (by omega) (by omega) dX1_setFlow_56 (fun H locs hc_ hk hz_ ho_ hS => ?_)
    have hP : GP E ad (gset S 2 ((j).toNat) v.toNat f) H := GP.ast hP hj1 2 (by decide) (by decide) hc_ ho_
    refine g_iload X dX1_setFlow_57 hl 0 rfl ?_
    exact vx_ret (g_iret X hS (⟨by unfold erF; grind [bZ], rfl, hP⟩) ⟨Nat.le_of_ble_eq_true rfl, Nat.le_of_ble_eq_true rfl⟩ dX1_setFlow_59)
  refine g_aload_n X dX1_setFlow_25 rfl hl 1 rfl ?_
  refine g_get X hk (v := .int (iI (gRun S))) in_X1 rfl (GP.X hP) 3 (by decide) q145 (rfl) dX1_setFlow_26 ?_
  refine g_if_ne X dX1_setFlow_29 (tgt := 36) (by decide) (by omega) (fun c29 => ?_) (fun c29 => ?_)
  · refine g_iconst X dX1_setFlow_36 ?_
    exact join_37.out 0 _ (by grind [bZ]) (lv_sub hl [0, 1, 2, 3, 4] rfl)
  · refine g_iconst X dX1_setFlow_32 ?_
    refine g_goto X dX1_setFlow_33 (tgt := 37) (by decide) ?_
    exact join_37.out 1 _ (by grind [bZ]) (lv_sub hl [0, 1, 2, 3, 4] rfl)
set_option maxHeartbeats 4000000 in
theorem p_setLink (l : Launch) (E : EP) (hst : l.stackTraces = false) (ad : Nat → Nat → Nat) (S : GS) (j t r : Int) (H : Heap) (hP : GP E ad S H) (hI : gI S) (hj : -2147483648 ≤ j ∧ j ≤ 2147483647) (ht : -2147483648 ≤ t ∧ t ≤ 2147483647) (hr : -2147483648 ≤ r ∧ r ≤ 2147483647) : gCv l E yX1_setLink cX1_setLink 5 9 3 18 H [.ref (ad 6 0), .int (iI j), .int (iI t), .int (iI r)] (gW (gN S) ad H) (fun H1 => erL S j t r = 0 ∧ GP E ad (gset (gset S 15 (j.toNat) 0 t) 16 (j.toNat) 0 r) H1) (xC (erL S j t r) [nIx, nAr, nSt]) := by
  refine g_metX (by decide) (Nat.le_of_ble_eq_true rfl) (fun P_ e_ s M_ bl mt_ c_ ls X hno_ hk hh hl => ?_)
  subst hh
  have X : gX P_ s M_ mt_ c_ cX1_setLink 5 ([.ref (ad 6 0), .int (iI j), .int (iI t), .int (iI r)] : List Value).toArray RX1 none := X
  have hl : lv_has ls 5 [(0, .ref (ad 6 0)), (1, .int (iI j)), (2, .int (iI t)), (3, .int (iI r))] := hl
  have hS : va_S (nA s.heap) s.heap s.heap [] := va_S.rf
  have hN0 : eN E ≤ s.heap.size := hk.N
  have hA0_ := GP.lts hP
  have hn5 := hI.1.1
  have hc := hI.2.1
  have hrun := hI.1.2.1
  have hnow := hI.1.2.2
  refine g_aload_n X dX1_setLink_0 rfl hl 0 rfl ?_
  refine g_iload_n X dX1_setLink_1 rfl hl 1 rfl ?_
  refine g_xcallrE (g_xrunV X hk (As := [.int (iI j)]) (rest := []) rfl (GP.X hP) (p_linkedAt l E hst ad S j s.heap hP hI (by omega)) 1 (lw_V q374 q376 qs4 q46 q377) (by decide +kernel) ⟨⟨Nat.le_of_ble_eq_true rfl, Nat.le_of_ble_eq_true rfl⟩, Nat.le_of_ble_eq_true rfl, Nat.le_of_ble_eq_true rfl⟩ rfl rfl hl.1 (Nat.le_of_ble_eq_true rfl) dX1_setLink_2) X hno_ hk hS (fun q h => Nat.le_trans hS.1 h) (fun q h => Nat.le_trans hk.N h) (fun q h => Or.inr h) (fun Ex h => by obtain ⟨h1, rfl⟩ := h.one; exact ⟨0, by unfold erL; revert h1; unfold erH; grind, rfl⟩) ⟨Nat.le_of_ble_eq_true rfl, Nat.le_of_ble_eq_true rfl⟩ (fun locs hB2 hS => ?_)
  have hj1 : (j).toNat < gN S := by omega
  refine g_astore (lv' := [(4, .ref (ad 0 ((j).toNat))), (0, .ref (ad 6 0)), (1, .int (iI j)), (2, .int (iI t)), (3, .int (iI r))]) X dX1_setLink_5 hl (by decide) rfl (fun ls hl => ?_)
  have join_32 : gHide (∀ (z : Int) (ls : Array Slot), z = (bZ (decide ((1 ≤ t ∧ t ≤ 60) ∧ 1 ≤ r ∧ r ≤ 40))) → lv_has ls 5 [(4, .ref (ad 0 ((j).toNat))), (0, .ref (ad 6 0)), (1, .int (iI j)), (2, .int (iI t)), (3, .int (iI r))] → W P_ l e_ (gR 9 3 18) s M_ ([.ref (ad 6 0), .int (iI j), .int (iI t), .int (iI r)] : List Value).toArray bl mt_ c_ s.heap locs (0 + 1) (0 + 6) (vx_MQ bl (gQv (gW (gN S) ad s.heap) (fun H1 => erL S j t r = 0 ∧ GP E ad (gset (gset S 15 (j.toNat) 0 t) 16 (j.toNat) 0 r) H1)) (gXD (xC (erL S j t r) [nIx, nAr, nSt])) ([.ref (ad 6 0), .int (iI j), .int (iI t), .int (iI r)] : List Value).toArray s 3 18 (gW (gN S) ad s.heap)) (F0 M_ 32 ls [.int (iI z)])) := by
    intro z ls e_z hl
    subst e_z
    have hl : lv_has ls 5 [(4, .ref (ad 0 ((j).toNat))), (0, .ref (ad 6 0)), (1, .int (iI j)), (2, .int (iI t)), (3, .int (iI r))] := hl
    have hz32 := bZ_le (decide ((1 ≤ t ∧ t ≤ 60) ∧ 1 ≤ r ∧ r ≤ 40))
    refine (show (bZ (decide ((1 ≤ t ∧ t ≤ 60) ∧ 1 ≤ r ∧ r ≤ 40))) = 0 ∨ (bZ (decide ((1 ≤ t ∧ t ≤ 60) ∧ 1 ≤ r ∧ r ≤ 40))) = 1 by omega).elim (fun z32 => ?_) (fun z32 => ?_)
    · exact g_thxS X hno_ hk (As := [.int (iI (bZ (decide ((1 ≤ t ∧ t ≤ 60) ∧ 1 ≤ r ∧ r ≤ 40))))]) (rest := []) (rq_Argument_t l E hst s.heap (bZ (decide ((1 ≤ t ∧ t ≤ 60) ∧ 1 ≤ r ∧ r ≤ 40))) z32) 1 (lw_S q188 q189 q46 q190) (by decide +kernel) ⟨⟨Nat.le_of_ble_eq_true rfl, Nat.le_of_ble_eq_true rfl⟩, Nat.le_of_ble_eq_true rfl, Nat.le_of_ble_eq_true rfl⟩ rfl rfl hl.1 (Nat.le_of_ble_eq_true rfl) dX1_setLink_32 hS (fun q h => Or.inr h) (⟨1, by unfold erL; grind [bZ], rfl⟩) ⟨Nat.le_of_ble_eq_true rfl, Nat.le_of_ble_eq_true rfl⟩
    refine g_callE (g_runS X hk (As := [.int (iI (bZ (decide ((1 ≤ t ∧ t ≤ 60) ∧ 1 ≤ r ∧ r ≤ 40))))]) (rest := []) (rq_Argument l E s.heap (bZ (decide ((1 ≤ t ∧ t ≤ 60) ∧ 1 ≤ r ∧ r ≤ 40))) z32) 1 (lw_S q188 q189 q46 q190) (by decide +kernel) ⟨⟨Nat.le_of_ble_eq_true rfl, Nat.le_of_ble_eq_true rfl⟩, Nat.le_of_ble_eq_true rfl, Nat.le_of_ble_eq_true rfl⟩ rfl rfl hl.1 (Nat.le_of_ble_eq_true rfl) dX1_setLink_32) ?_
    have join_47 : gHide (∀ (z : Int) (ls : Array Slot), z = (bZ (decide (gRun S = 0))) → lv_has ls 5 [(4, .ref (ad 0 ((j).toNat))), (0, .ref (ad 6 0)), (1, .int (iI j)), (2, .int (iI t)), (3, .int (iI r))] → W P_ l e_ (gR 9 3 18) s M_ ([.ref (ad 6 0), .int (iI j), .int (iI t), .int (iI r)] : List Value).toArray bl mt_ c_ s.heap locs (0 + 1) (0 + 6) (vx_MQ bl (gQv (gW (gN S) ad s.heap) (fun H1 => erL S j t r = 0 ∧ GP E ad (gset (gset S 15 (j.toNat) 0 t) 16 (j.toNat) 0 r) H1)) (gXD (xC (erL S j t r) [nIx, nAr, nSt])) ([.ref (ad 6 0), .int (iI j), .int (iI t), .int (iI r)] : List Value).toArray s 3 18 (gW (gN S) ad s.heap)) (F0 M_ 47 ls [.int (iI z)])) := by
      intro z ls e_z hl
      subst e_z
      have hl : lv_has ls 5 [(4, .ref (ad 0 ((j).toNat))), (0, .ref (ad 6 0)), (1, .int (iI j)), (2, .int (iI t)), (3, .int (iI r))] := hl
      have hzr := bZ_le (decide (gRun S = 0))
      refine (show (bZ (decide (gRun S = 0))) = 0 ∨ (bZ (decide (gRun S = 0))) = 1 by omega).elim (fun z47 => ?_) (fun z47 => ?_)
      · exact g_thxS X hno_ hk (As := [.int (iI (bZ (decide (gRun S = 0))))]) (rest := []) (rq_State_t l E hst s.heap (bZ (decide (gRun S = 0))) z47) 1 (lw_S q326 q327 q46 q328) (by decide +kernel) ⟨⟨Nat.le_of_ble_eq_true rfl, Nat.le_of_ble_eq_true rfl⟩, Nat.le_of_ble_eq_true rfl, Nat.le_of_ble_eq_true rfl⟩ rfl rfl hl.1 (Nat.le_of_ble_eq_true rfl) dX1_setLink_47 hS (fun q h => Or.inr h) (⟨2, by unfold erL; grind [bZ], rfl⟩) ⟨Nat.le_of_ble_eq_true rfl, Nat.le_of_ble_eq_true rfl⟩
      refine g_callE (g_runS X hk (As := [.int (iI (bZ (decide (gRun S = 0))))]) (rest := []) (rq_State l E s.heap (bZ (decide (gRun S = 0))) z47) 1 (lw_S q326 q327 q46 q328) (by decide +kernel) ⟨⟨Nat.le_of_ble_eq_true rfl, Nat.le_of_ble_eq_true rfl⟩, Nat.le_of_ble_eq_true rfl, Nat.le_of_ble_eq_true rfl⟩ rfl rfl hl.1 (Nat.le_of_ble_eq_true rfl) dX1_setLink_47) ?_
      refine g_aload X dX1_setLink_50 hl 0 rfl ?_
      refine g_iload_n X dX1_setLink_52 rfl hl 3 rfl ?_
      have hS : va_S (gW (gN S) ad s.heap) s.heap s.heap _ := g_ws hS (fun q h => Or.inr h)
      refine g_putN X hk hS ⟨Or.inl ⟨0, ((j).toNat), gv_0 (by decide) (by omega), rfl⟩, hP.2.2 _ _ (gv_0 (by decide) hj1)⟩ in_X2 tyX2 tyX2_ok nmX2 rfl (GP.J hP hj1) 5 (by decide) 5 rfl rfl (ty := .int) (by decide +kernel) rfl rfl (Nat.le_of_ble_eq_true rfl) dX1_setLink_53 (fun H locs hc_ hk hz_ ho_ hS => ?_)
      have hP : GP E ad (gset S 15 ((j).toNat) 0 t) H := GP.putJ hP hj1 5 rfl hc_ ho_
      refine g_aload X dX1_setLink_56 hl 0 rfl ?_
      refine g_iload_n X dX1_setLink_58 rfl hl 4 rfl ?_
      refine g_putN X hk hS ⟨Or.inl ⟨0, ((j).toNat), gv_0 (by decide) (by omega), rfl⟩, hP.2.2 _ _ (gv_0 (by decide) hj1)⟩ in_X2 tyX2 tyX2_ok nmX2 rfl (GP.J hP hj1) 6 (by decide) 6 rfl rfl (ty := .int) (by decide +kernel) rfl rfl (Nat.le_of_ble_eq_true rfl) dX1_setLink_59 (fun H locs hc_ hk hz_ ho_ hS => ?_)
      have hP : GP E ad (gset (gset S 15 ((j).toNat) 0 t) 16 ((j).toNat) 0 r) H := GP.putJ hP hj1 6 rfl hc_ ho_
      exact vx_ret (g_vret X hS (⟨by unfold erL; grind [bZ], hP⟩) ⟨Nat.le_of_ble_eq_true rfl, Nat.le_of_ble_eq_true rfl⟩ dX1_setLink_62)
    refine g_aload_n X dX1_setLink_35 rfl hl 1 rfl ?_
    refine g_get X hk (v := .int (iI (gRun S))) in_X1 rfl (GP.X hP) 3 (by decide) q145 (rfl) dX1_setLink_36 ?_
    refine g_if_ne X dX1_setLink_39 (tgt := 46) (by decide) (by omega) (fun c39 => ?_) (fun c39 => ?_)
    · refine g_iconst X dX1_setLink_46 ?_
      exact join_47.out 0 _ (by grind [bZ]) (lv_sub hl [0, 1, 2, 3, 4] rfl)
    · refine g_iconst X dX1_setLink_42 ?_
      refine g_goto X dX1_setLink_43 (tgt := 47) (by decide) ?_
      exact join_47.out 1 _ (by grind [bZ]) (lv_sub hl [0, 1, 2, 3, 4] rfl)
  refine g_iload_n X dX1_setLink_7 rfl hl 3 rfl ?_
  refine g_iconst X dX1_setLink_8 ?_
  refine g_bipush X dX1_setLink_9 rfl ?_
  refine g_pS X hk (As := [.int (iI t), .int (iI 1), .int (iI 60)]) (rest := []) (p_inRange l E t 1 60 s.heap (by omega) (by omega) (by omega)) 3 (lw_S q185 q186 q46 q187) (by decide +kernel) ⟨⟨Nat.le_of_ble_eq_true rfl, Nat.le_of_ble_eq_true rfl⟩, Nat.le_of_ble_eq_true rfl, Nat.le_of_ble_eq_true rfl⟩ rfl rfl hl.1 (Nat.le_of_ble_eq_true rfl) dX1_setLink_11 ?_
  have h14 := bZ_le (decide (1 ≤ t ∧ t ≤ 60))
  refine g_if_eq X dX1_setLink_14 (tgt := 31) (by decide) (by omega) (fun c14 => ?_) (fun c14 => ?_)
  · refine g_iconst X dX1_setLink_31 ?_
    exact join_32.out 0 _ (by grind [bZ]) (lv_sub hl [0, 1, 2, 3, 4] rfl)
  · refine g_iload_n X dX1_setLink_17 rfl hl 4 rfl ?_
    refine g_iconst X dX1_setLink_18 ?_
    refine g_bipush X dX1_setLink_19 rfl ?_
    refine g_pS X hk (As := [.int (iI r), .int (iI 1), .int (iI 40)]) (rest := []) (p_inRange l E r 1 40 s.heap (by omega) (by omega) (by omega)) 3 (lw_S q185 q186 q46 q187) (by decide +kernel) ⟨⟨Nat.le_of_ble_eq_true rfl, Nat.le_of_ble_eq_true rfl⟩, Nat.le_of_ble_eq_true rfl, Nat.le_of_ble_eq_true rfl⟩ rfl rfl hl.1 (Nat.le_of_ble_eq_true rfl) dX1_setLink_21 ?_
    have h24 := bZ_le (decide (1 ≤ r ∧ r ≤ 40))
    refine g_if_eq X dX1_setLink_24 (tgt := 31) (by decide) (by omega) (fun c24 => ?_) (fun c24 => ?_)
    · refine g_iconst X dX1_setLink_31 ?_
      exact join_32.out 0 _ (by grind [bZ]) (lv_sub hl [0, 1, 2, 3, 4] rfl)
    · refine g_iconst X dX1_setLink_27 ?_
      refine g_goto X dX1_setLink_28 (tgt := 32) (by decide) ?_
      exact join_32.out 1 _ (by grind [bZ]) (lv_sub hl [0, 1, 2, 3, 4] rfl)
set_option maxHeartbeats 4000000 in
theorem p_setConflict (l : Launch) (E : EP) (hst : l.stackTraces = false) (ad : Nat → Nat → Nat) (S : GS) (j a b x : Int) (H : Heap) (hP : GP E ad S H) (hI : gI S) (hj : -2147483648 ≤ j ∧ j ≤ 2147483647) (ha : -2147483648 ≤ a ∧ a ≤ 2147483647) (hb : -2147483648 ≤ b ∧ b ≤ 2147483647) (hx : -2147483648 ≤ x ∧ x ≤ 2147483647) : gCi l E yX1_setConflict cX1_setConflict 11 .int 9 5 32 H [.ref (ad 6 0), .int (iI j), .int (iI a), .int (iI b), .int (iI x)] (gW (gN S) ad H) (fun z H1 => erC S j a b x = 0 ∧ z = gCf S (j.toNat) (4 * a.toNat + b.toNat) ∧ GP E ad (gset (gset S 1 (j.toNat) (4 * a.toNat + b.toNat) x) 1 (j.toNat) (4 * b.toNat + a.toNat) x) H1) (xC (erC S j a b x) [nIx, nAr, nSt]) := by
  refine g_metX (by decide) (Nat.le_of_ble_eq_true rfl) (fun P_ e_ s M_ bl mt_ c_ ls X hno_ hk hh hl => ?_)
  subst hh
  have X : gX P_ s M_ mt_ c_ cX1_setConflict 11 ([.ref (ad 6 0), .int (iI j), .int (iI a), .int (iI b), .int (iI x)] : List Value).toArray RX1 (some .int) := X
  have hl : lv_has ls 11 [(0, .ref (ad 6 0)), (1, .int (iI j)), (2, .int (iI a)), (3, .int (iI b)), (4, .int (iI x))] := hl
  have hS : va_S (nA s.heap) s.heap s.heap [] := va_S.rf
  have hN0 : eN E ≤ s.heap.size := hk.N
  have hA0_ := GP.lts hP
  have hn5 := hI.1.1
  have hc := hI.2.1
  have hrun := hI.1.2.1
  have hnow := hI.1.2.2
  have alV_eq := alV2 a b
  refine g_aload_n X dX1_setConflict_0 rfl hl 0 rfl ?_
  refine g_iload_n X dX1_setConflict_1 rfl hl 1 rfl ?_
  refine g_iconst X dX1_setConflict_2 ?_
  have hs0_ := hS.1
  refine g_newI X hk hS (N := 2) (by first | rfl | omega) (by omega) ⟨Nat.le_of_ble_eq_true rfl, Nat.le_of_ble_eq_true rfl⟩ dX1_setConflict_3 (fun qv H hq_ hc_ hk hz_ ho_ hS => ?_)
  have hV : ce E qv (aI E 2 (fun _ => 0)) H := hc_
  have hV_g : s.heap.size ≤ qv := by omega
  have lk_ := lk_new (s0 := s.heap.size) ho_
  have hP := GP.new hP ho_
  refine g_dup X dX1_setConflict_5 rfl ?_
  refine g_iconst X dX1_setConflict_6 ?_
  refine g_iload_n X dX1_setConflict_7 rfl hl 2 rfl ?_
  refine g_iast X hk hS ⟨hV_g, Nat.le_trans hN0 hV_g⟩ (j := 0) (n := 2) (f := (fun _ => 0)) hV (rfl) (by omega) dX1_setConflict_8 (fun H locs hc_ hk hz_ ho_ hS => ?_)
  have hP := GP.loc hP hA0_ hV_g ho_
  have hV : ce E qv (aI E 2 (uI (fun _ => 0) 0 a)) H := hc_
  refine g_dup X dX1_setConflict_9 rfl ?_
  refine g_iconst X dX1_setConflict_10 ?_
  refine g_iload_n X dX1_setConflict_11 rfl hl 3 rfl ?_
  refine g_iast X hk hS ⟨hV_g, Nat.le_trans hN0 hV_g⟩ (j := 1) (n := 2) (f := (uI (fun _ => 0) 0 a)) hV (rfl) (by omega) dX1_setConflict_12 (fun H locs hc_ hk hz_ ho_ hS => ?_)
  have hP := GP.loc hP hA0_ hV_g ho_
  have hV : ce E qv (aI E 2 (uI (uI (fun _ => 0) 0 a) 1 b)) H := hc_
  refine g_xcallrE (g_xrunV X hk (As := [.int (iI j), .ref qv]) (rest := []) rfl (GP.X hP) (p_junctionWith l E hst ad S j qv 2 (uI (uI (fun _ => 0) 0 a) 1 b) H hP hI (by omega) hV (by omega) (by intro i hi; rcases (show i = 0 ∨ i = 1 by omega) with rfl | rfl <;> simp [uI] <;> omega)) 2 (lw_V q297 q299 qs2 q46 q300) (by decide +kernel) ⟨⟨Nat.le_of_ble_eq_true rfl, Nat.le_of_ble_eq_true rfl⟩, Nat.le_of_ble_eq_true rfl, Nat.le_of_ble_eq_true rfl⟩ rfl rfl hl.1 (Nat.le_of_ble_eq_true rfl) dX1_setConflict_13) X hno_ hk hS (fun q h => Nat.le_trans hS.1 h) (fun q h => Nat.le_trans hk.N h) (fun q h => Or.inr h) (fun Ex h => by obtain ⟨h1, rfl⟩ := h.one; exact ⟨0, by unfold erC; revert h1; unfold erW; rw [alV_eq]; grind, rfl⟩) ⟨Nat.le_of_ble_eq_true rfl, Nat.le_of_ble_eq_true rfl⟩ (fun locs hB13 hS => ?_)
  have hj1 : (j).toNat < gN S := by omega
  have h9 : (0 ≤ a ∧ a ≤ 3) ∧ 0 ≤ b ∧ b ≤ 3 := by have := hB13.2; rw [alV_eq, Bool.and_eq_true, decide_eq_true_eq, decide_eq_true_eq] at this; exact this
  have hnp := (hI.2.2 (j.toNat) hj1).1
  skip
  refine g_astore (lv' := [(5, .ref (ad 0 ((j).toNat))), (0, .ref (ad 6 0)), (1, .int (iI j)), (2, .int (iI a)), (3, .int (iI b)), (4, .int (iI x))]) X dX1_setConflict_16 hl (by decide) rfl (fun ls hl => ?_)
  have join_39 : gHide (∀ (z : Int) (ls : Array Slot), z = (bZ (decide (¬ a = b ∧ -1 ≤ x ∧ x ≤ 9))) → lv_has ls 11 [(5, .ref (ad 0 ((j).toNat))), (0, .ref (ad 6 0)), (1, .int (iI j)), (2, .int (iI a)), (3, .int (iI b)), (4, .int (iI x))] → W P_ l e_ (gR 9 5 32) s M_ ([.ref (ad 6 0), .int (iI j), .int (iI a), .int (iI b), .int (iI x)] : List Value).toArray bl mt_ c_ H locs ((0 + 1) + 2) ((0 + 2) + 12) (vx_MQ bl (gQi (gW (gN S) ad s.heap) (fun z H1 => erC S j a b x = 0 ∧ z = gCf S (j.toNat) (4 * a.toNat + b.toNat) ∧ GP E ad (gset (gset S 1 (j.toNat) (4 * a.toNat + b.toNat) x) 1 (j.toNat) (4 * b.toNat + a.toNat) x) H1)) (gXD (xC (erC S j a b x) [nIx, nAr, nSt])) ([.ref (ad 6 0), .int (iI j), .int (iI a), .int (iI b), .int (iI x)] : List Value).toArray s 5 32 (gW (gN S) ad s.heap)) (F0 M_ 39 ls [.int (iI z)])) := by
    intro z ls e_z hl
    subst e_z
    have hl : lv_has ls 11 [(5, .ref (ad 0 ((j).toNat))), (0, .ref (ad 6 0)), (1, .int (iI j)), (2, .int (iI a)), (3, .int (iI b)), (4, .int (iI x))] := hl
    have hz39 := bZ_le (decide (¬ a = b ∧ -1 ≤ x ∧ x ≤ 9))
    refine (show (bZ (decide (¬ a = b ∧ -1 ≤ x ∧ x ≤ 9))) = 0 ∨ (bZ (decide (¬ a = b ∧ -1 ≤ x ∧ x ≤ 9))) = 1 by omega).elim (fun z39 => ?_) (fun z39 => ?_)
    · exact g_thxS X hno_ hk (As := [.int (iI (bZ (decide (¬ a = b ∧ -1 ≤ x ∧ x ≤ 9))))]) (rest := []) (rq_Argument_t l E hst H (bZ (decide (¬ a = b ∧ -1 ≤ x ∧ x ≤ 9))) z39) 1 (lw_S q188 q189 q46 q190) (by decide +kernel) ⟨⟨Nat.le_of_ble_eq_true rfl, Nat.le_of_ble_eq_true rfl⟩, Nat.le_of_ble_eq_true rfl, Nat.le_of_ble_eq_true rfl⟩ rfl rfl hl.1 (Nat.le_of_ble_eq_true rfl) dX1_setConflict_39 hS (fun q h => Or.inr h) (⟨1, by unfold erC; grind [bZ], rfl⟩) ⟨Nat.le_of_ble_eq_true rfl, Nat.le_of_ble_eq_true rfl⟩
    refine g_callE (g_runS X hk (As := [.int (iI (bZ (decide (¬ a = b ∧ -1 ≤ x ∧ x ≤ 9))))]) (rest := []) (rq_Argument l E H (bZ (decide (¬ a = b ∧ -1 ≤ x ∧ x ≤ 9))) z39) 1 (lw_S q188 q189 q46 q190) (by decide +kernel) ⟨⟨Nat.le_of_ble_eq_true rfl, Nat.le_of_ble_eq_true rfl⟩, Nat.le_of_ble_eq_true rfl, Nat.le_of_ble_eq_true rfl⟩ rfl rfl hl.1 (Nat.le_of_ble_eq_true rfl) dX1_setConflict_39) ?_
    have h42 : ¬ a = b ∧ -1 ≤ x ∧ x ≤ 9 := by grind [bZ]
    refine g_iconst X dX1_setConflict_42 ?_
    refine g_istore (lv' := [(6, .int (iI 0)), (5, .ref (ad 0 ((j).toNat))), (0, .ref (ad 6 0)), (1, .int (iI j)), (2, .int (iI a)), (3, .int (iI b)), (4, .int (iI x))]) X dX1_setConflict_43 hl (by decide) rfl (fun ls hl => ?_)
    refine g_aload X dX1_setConflict_45 hl 1 rfl ?_
    refine g_getN X hk (v := .ref (ad 3 ((j).toNat))) (host := "Greenwave") in_X2 rfl (GP.J hP hj1) 3 (by decide) 3 rfl (rfl) dX1_setConflict_47 ?_
    refine g_astore (lv' := [(7, .ref (ad 3 ((j).toNat))), (6, .int (iI 0)), (5, .ref (ad 0 ((j).toNat))), (0, .ref (ad 6 0)), (1, .int (iI j)), (2, .int (iI a)), (3, .int (iI b)), (4, .int (iI x))]) X dX1_setConflict_50 hl (by decide) rfl (fun ls hl => ?_)
    refine g_aload X dX1_setConflict_52 hl 0 rfl ?_
    refine g_alenI X hk (n := (gNp S ((j).toNat))) (GP.P hP hj1) dX1_setConflict_54 ?_
    refine g_istore (lv' := [(8, .int (iI (((gNp S ((j).toNat)) : Nat) : Int))), (7, .ref (ad 3 ((j).toNat))), (6, .int (iI 0)), (5, .ref (ad 0 ((j).toNat))), (0, .ref (ad 6 0)), (1, .int (iI j)), (2, .int (iI a)), (3, .int (iI b)), (4, .int (iI x))]) X dX1_setConflict_55 hl (by decide) rfl (fun ls hl => ?_)
    refine g_iconst X dX1_setConflict_57 ?_
    refine g_istore (lv' := [(9, .int (iI 0)), (8, .int (iI (((gNp S ((j).toNat)) : Nat) : Int))), (7, .ref (ad 3 ((j).toNat))), (6, .int (iI 0)), (5, .ref (ad 0 ((j).toNat))), (0, .ref (ad 6 0)), (1, .int (iI j)), (2, .int (iI a)), (3, .int (iI b)), (4, .int (iI x))]) X dX1_setConflict_58 hl (by decide) rfl (fun ls hl => ?_)
    have loop_60 : gHide (∀ (n_ : Nat) (k : Nat) (v9 : Int) (v6 : Int), gNp S (j.toNat) + 1 ≤ k + n_ → v9 = ((k : Nat) : Int) → v6 = (bZ (tgK S (j.toNat) a b k)) → (k ≤ gNp S (j.toNat)) → ∀ (ls : Array Slot), lv_has ls 11 [(9, .int (iI v9)), (6, .int (iI v6)), (8, .int (iI (((gNp S ((j).toNat)) : Nat) : Int))), (7, .ref (ad 3 ((j).toNat))), (5, .ref (ad 0 ((j).toNat))), (0, .ref (ad 6 0)), (1, .int (iI j)), (2, .int (iI a)), (3, .int (iI b)), (4, .int (iI x))] → W P_ l e_ (gR 9 5 32) s M_ ([.ref (ad 6 0), .int (iI j), .int (iI a), .int (iI b), .int (iI x)] : List Value).toArray bl mt_ c_ H locs ((0 + 1) + 2) ((0 + 2) + 12) (vx_MQ bl (gQi (gW (gN S) ad s.heap) (fun z H1 => erC S j a b x = 0 ∧ z = gCf S (j.toNat) (4 * a.toNat + b.toNat) ∧ GP E ad (gset (gset S 1 (j.toNat) (4 * a.toNat + b.toNat) x) 1 (j.toNat) (4 * b.toNat + a.toNat) x) H1)) (gXD (xC (erC S j a b x) [nIx, nAr, nSt])) ([.ref (ad 6 0), .int (iI j), .int (iI a), .int (iI b), .int (iI x)] : List Value).toArray s 5 32 (gW (gN S) ad s.heap)) (F0 M_ 60 ls [])) := by
      intro n_
      induction n_ with
      | zero => intro k v9 v6 hb_ e_v9 e_v6 hkb ls hl; exact absurd hb_ (by omega)
      | succ n_ ih_60 =>
        replace ih_60 := gHide.mk ih_60
        intro k v9 v6 hb_ e_v9 e_v6 hkb ls hl
        subst e_v9
        subst e_v6
        have hl : lv_has ls 11 [(9, .int (iI ((k : Nat) : Int))), (6, .int (iI (bZ (tgK S (j.toNat) a b k)))), (8, .int (iI (((gNp S ((j).toNat)) : Nat) : Int))), (7, .ref (ad 3 ((j).toNat))), (5, .ref (ad 0 ((j).toNat))), (0, .ref (ad 6 0)), (1, .int (iI j)), (2, .int (iI a)), (3, .int (iI b)), (4, .int (iI x))] := hl
        have hz60 := bZ_le (tgK S (j.toNat) a b k)
        refine g_iload X dX1_setConflict_60 hl 0 rfl ?_
        refine g_iload X dX1_setConflict_62 hl 2 rfl ?_
        refine g_icmp_ge X dX1_setConflict_64 (tgt := 110) (by decide) (by omega) (fun c64 => ?_) (fun c64 => ?_)
        · have ekk : k = gNp S (j.toNat) := by omega
          have ev6 : (bZ (tgK S (j.toNat) a b k)) = (bZ (tgK S (j.toNat) a b (gNp S (j.toNat)))) := by rw [ekk]
          rw [ev6] at hl
          have hl : lv_has ls 11 [(9, .int (iI ((k : Nat) : Int))), (6, .int (iI (bZ (tgK S (j.toNat) a b (gNp S (j.toNat)))))), (8, .int (iI (((gNp S ((j).toNat)) : Nat) : Int))), (7, .ref (ad 3 ((j).toNat))), (5, .ref (ad 0 ((j).toNat))), (0, .ref (ad 6 0)), (1, .int (iI j)), (2, .int (iI a)), (3, .int (iI b)), (4, .int (iI x))] := hl
          have hz110 := bZ_le (tgK S (j.toNat) a b (gNp S (j.toNat)))
          refine g_aload_n X dX1_setConflict_110 rfl hl 5 rfl ?_
          have join_133 : gHide (∀ (z : Int) (ls : Array Slot), z = (bZ (decide (gRun S = 0 ∧ (x = -1 ∨ tgK S (j.toNat) a b (gNp S (j.toNat)) = false)))) → lv_has ls 11 [(5, .ref (ad 0 ((j).toNat))), (0, .ref (ad 6 0)), (1, .int (iI j)), (2, .int (iI a)), (3, .int (iI b)), (4, .int (iI x))] → W P_ l e_ (gR 9 5 32) s M_ ([.ref (ad 6 0), .int (iI j), .int (iI a), .int (iI b), .int (iI x)] : List Value).toArray bl mt_ c_ H locs ((0 + 1) + 2) ((0 + 2) + 12) (vx_MQ bl (gQi (gW (gN S) ad s.heap) (fun z H1 => erC S j a b x = 0 ∧ z = gCf S (j.toNat) (4 * a.toNat + b.toNat) ∧ GP E ad (gset (gset S 1 (j.toNat) (4 * a.toNat + b.toNat) x) 1 (j.toNat) (4 * b.toNat + a.toNat) x) H1)) (gXD (xC (erC S j a b x) [nIx, nAr, nSt])) ([.ref (ad 6 0), .int (iI j), .int (iI a), .int (iI b), .int (iI x)] : List Value).toArray s 5 32 (gW (gN S) ad s.heap)) (F0 M_ 133 ls [.int (iI z)])) := by
            intro z ls e_z hl
            subst e_z
            have hl : lv_has ls 11 [(5, .ref (ad 0 ((j).toNat))), (0, .ref (ad 6 0)), (1, .int (iI j)), (2, .int (iI a)), (3, .int (iI b)), (4, .int (iI x))] := hl
            have hz133 := bZ_le (decide (gRun S = 0 ∧ (x = -1 ∨ tgK S (j.toNat) a b (gNp S (j.toNat)) = false)))
            refine (show (bZ (decide (gRun S = 0 ∧ (x = -1 ∨ tgK S (j.toNat) a b (gNp S (j.toNat)) = false)))) = 0 ∨ (bZ (decide (gRun S = 0 ∧ (x = -1 ∨ tgK S (j.toNat) a b (gNp S (j.toNat)) = false)))) = 1 by omega).elim (fun z133 => ?_) (fun z133 => ?_)
            · exact g_thxS X hno_ hk (As := [.int (iI (bZ (decide (gRun S = 0 ∧ (x = -1 ∨ tgK S (j.toNat) a b (gNp S (j.toNat)) = false)))))]) (rest := []) (rq_State_t l E hst H (bZ (decide (gRun S = 0 ∧ (x = -1 ∨ tgK S (j.toNat) a b (gNp S (j.toNat)) = false)))) z133) 1 (lw_S q326 q327 q46 q328) (by decide +kernel) ⟨⟨Nat.le_of_ble_eq_true rfl, Nat.le_of_ble_eq_true rfl⟩, Nat.le_of_ble_eq_true rfl, Nat.le_of_ble_eq_true rfl⟩ rfl rfl hl.1 (Nat.le_of_ble_eq_true rfl) dX1_setConflict_133 hS (fun q h => Or.inr h) (⟨2, by unfold erC; grind [bZ], rfl⟩) ⟨Nat.le_of_ble_eq_true rfl, Nat.le_of_ble_eq_true rfl⟩
            refine g_callE (g_runS X hk (As := [.int (iI (bZ (decide (gRun S = 0 ∧ (x = -1 ∨ tgK S (j.toNat) a b (gNp S (j.toNat)) = false)))))]) (rest := []) (rq_State l E H (bZ (decide (gRun S = 0 ∧ (x = -1 ∨ tgK S (j.toNat) a b (gNp S (j.toNat)) = false)))) z133) 1 (lw_S q326 q327 q46 q328) (by decide +kernel) ⟨⟨Nat.le_of_ble_eq_true rfl, Nat.le_of_ble_eq_true rfl⟩, Nat.le_of_ble_eq_true rfl, Nat.le_of_ble_eq_true rfl⟩ rfl rfl hl.1 (Nat.le_of_ble_eq_true rfl) dX1_setConflict_133) ?_
            have h133 : gRun S = 0 ∧ (x = -1 ∨ tgK S (j.toNat) a b (gNp S (j.toNat)) = false) := by grind [bZ]
            have ev2 : a = ((a.toNat : Nat) : Int) := by omega
            have ev3 : b = ((b.toNat : Nat) : Int) := by omega
            rw [ev2, ev3] at hl
            have hl : lv_has ls 11 [(5, .ref (ad 0 ((j).toNat))), (0, .ref (ad 6 0)), (1, .int (iI j)), (2, .int (iI ((a.toNat : Nat) : Int))), (3, .int (iI ((b.toNat : Nat) : Int))), (4, .int (iI x))] := hl
            refine g_aload X dX1_setConflict_136 hl 0 rfl ?_
            refine g_iload_n X dX1_setConflict_138 rfl hl 3 rfl ?_
            refine g_iload_n X dX1_setConflict_139 rfl hl 4 rfl ?_
            refine g_pV X hk (As := [.int (iI ((a.toNat : Nat) : Int)), .int (iI ((b.toNat : Nat) : Int))]) (rest := []) rfl (GP.J hP hj1) (p_clearance l E ad S H hP hI ((j).toNat) hj1 a.toNat b.toNat (by omega) (by omega)) 2 (lw_V q344 q345 q346 q47 q347) (by decide +kernel) ⟨⟨Nat.le_of_ble_eq_true rfl, Nat.le_of_ble_eq_true rfl⟩, Nat.le_of_ble_eq_true rfl, Nat.le_of_ble_eq_true rfl⟩ rfl rfl hl.1 (Nat.le_of_ble_eq_true rfl) dX1_setConflict_140 ?_
            refine g_istore (lv' := [(7, .int (iI (gCf S ((j).toNat) (4 * a.toNat + b.toNat)))), (5, .ref (ad 0 ((j).toNat))), (0, .ref (ad 6 0)), (1, .int (iI j)), (2, .int (iI ((a.toNat : Nat) : Int))), (3, .int (iI ((b.toNat : Nat) : Int))), (4, .int (iI x))]) X dX1_setConflict_143 hl (by decide) rfl (fun ls hl => ?_)
            refine g_aload X dX1_setConflict_145 hl 1 rfl ?_
            refine g_getN X hk (v := .ref (ad 1 ((j).toNat))) (host := "Greenwave") in_X2 rfl (GP.J hP hj1) 1 (by decide) 1 rfl (rfl) dX1_setConflict_147 ?_
            refine g_iconst X dX1_setConflict_150 ?_
            refine g_iload_n X dX1_setConflict_151 rfl hl 4 rfl ?_
            refine g_imul X dX1_setConflict_152 ?_
            refine g_iload_n X dX1_setConflict_153 rfl hl 5 rfl ?_
            refine g_iadd X dX1_setConflict_154 ?_
            refine g_iload X dX1_setConflict_155 hl 6 rfl ?_
            have hS : va_S (gW (gN S) ad s.heap) s.heap H _ := g_ws hS (fun q h => Or.inr h)
            refine g_iast X hk hS ⟨Or.inl ⟨1, ((j).toNat), gv_0 (by decide) (by omega), rfl⟩, hP.2.2 _ _ (gv_0 (by decide) hj1)⟩ (j := ((4 * a.toNat) + b.toNat)) (n := 16) (f := (gCf S ((j).toNat))) (GP.C hP hj1) (by omega) (by omega) dX1_setConflict_157 (fun H locs hc_ hk hz_ ho_ hS => ?_)
            have hP : GP E ad (gset S 1 ((j).toNat) ((4 * a.toNat) + b.toNat) x) H := GP.ast hP hj1 1 (by decide) (by decide) hc_ ho_
            refine g_aload X dX1_setConflict_158 hl 1 rfl ?_
            refine g_getN X hk (v := .ref (ad 1 ((j).toNat))) (host := "Greenwave") in_X2 rfl (GP.J hP hj1) 1 (by decide) 1 rfl (rfl) dX1_setConflict_160 ?_
            refine g_iconst X dX1_setConflict_163 ?_
            refine g_iload_n X dX1_setConflict_164 rfl hl 5 rfl ?_
            refine g_imul X dX1_setConflict_165 ?_
            refine g_iload_n X dX1_setConflict_166 rfl hl 4 rfl ?_
            refine g_iadd X dX1_setConflict_167 ?_
            refine g_iload X dX1_setConflict_168 hl 6 rfl ?_
            refine g_iast X hk hS ⟨Or.inl ⟨1, ((j).toNat), gv_0 (by decide) (by omega), rfl⟩, hP.2.2 _ _ (gv_0 (by decide) hj1)⟩ (j := ((4 * b.toNat) + a.toNat)) (n := 16) (f := (gCf (gset S 1 ((j).toNat) ((4 * a.toNat) + b.toNat) x) ((j).toNat))) (GP.C (S := (gset S 1 ((j).toNat) ((4 * a.toNat) + b.toNat) x)) hP hj1) (by omega) (by omega) dX1_setConflict_170 (fun H locs hc_ hk hz_ ho_ hS => ?_)
            have hP : GP E ad (gset (gset S 1 ((j).toNat) ((4 * a.toNat) + b.toNat) x) 1 ((j).toNat) ((4 * b.toNat) + a.toNat) x) H := GP.ast hP hj1 1 (by decide) (by decide) hc_ ho_
            refine g_iload X dX1_setConflict_171 hl 0 rfl ?_
            exact vx_ret (g_iret X hS (⟨by unfold erC; grind [bZ], rfl, hP⟩) ⟨Nat.le_of_ble_eq_true rfl, Nat.le_of_ble_eq_true rfl⟩ dX1_setConflict_173)
          refine g_get X hk (v := .int (iI (gRun S))) in_X1 rfl (GP.X hP) 3 (by decide) q145 (rfl) dX1_setConflict_111 ?_
          refine g_if_ne X dX1_setConflict_114 (tgt := 132) (by decide) (by omega) (fun c114 => ?_) (fun c114 => ?_)
          · refine g_iconst X dX1_setConflict_132 ?_
            exact join_133.out 0 _ (by grind [bZ]) (lv_sub hl [4, 5, 6, 7, 8, 9] rfl)
          · refine g_iload X dX1_setConflict_117 hl 9 rfl ?_
            refine g_iconst X dX1_setConflict_119 ?_
            refine g_icmp_eq X dX1_setConflict_120 (tgt := 128) (by decide) (by omega) (fun c120 => ?_) (fun c120 => ?_)
            · refine g_iconst X dX1_setConflict_128 ?_
              refine g_goto X dX1_setConflict_129 (tgt := 133) (by decide) ?_
              exact join_133.out 1 _ (by grind [bZ]) (lv_sub hl [4, 5, 6, 7, 8, 9] rfl)
            · refine g_iload X dX1_setConflict_123 hl 1 rfl ?_
              refine g_if_ne X dX1_setConflict_125 (tgt := 132) (by decide) (by omega) (fun c125 => ?_) (fun c125 => ?_)
              · refine g_iconst X dX1_setConflict_132 ?_
                exact join_133.out 0 _ (by grind [bZ]) (lv_sub hl [4, 5, 6, 7, 8, 9] rfl)
              · refine g_iconst X dX1_setConflict_128 ?_
                refine g_goto X dX1_setConflict_129 (tgt := 133) (by decide) ?_
                exact join_133.out 1 _ (by grind [bZ]) (lv_sub hl [4, 5, 6, 7, 8, 9] rfl)
        · refine g_aload X dX1_setConflict_67 hl 3 rfl ?_
          refine g_iload X dX1_setConflict_69 hl 0 rfl ?_
          refine g_ialdv X hk (j := k) (n := (gNp S ((j).toNat))) (f := (gPh S ((j).toNat))) (v := ((gPh S ((j).toNat)) k)) (GP.P hP hj1) (rfl) (by omega) (rfl) dX1_setConflict_71 ?_
          refine g_istore (lv' := [(10, .int (iI ((gPh S ((j).toNat)) k))), (9, .int (iI ((k : Nat) : Int))), (6, .int (iI (bZ (tgK S (j.toNat) a b k)))), (8, .int (iI (((gNp S ((j).toNat)) : Nat) : Int))), (7, .ref (ad 3 ((j).toNat))), (5, .ref (ad 0 ((j).toNat))), (0, .ref (ad 6 0)), (1, .int (iI j)), (2, .int (iI a)), (3, .int (iI b)), (4, .int (iI x))]) X dX1_setConflict_72 hl (by decide) rfl (fun ls hl => ?_)
          have join_102 : gHide (∀ (z : Int) (ls : Array Slot), z = (bZ (tgK S (j.toNat) a b (k + 1))) → lv_has ls 11 [(10, .int (iI ((gPh S ((j).toNat)) k))), (9, .int (iI ((k : Nat) : Int))), (6, .int (iI (bZ (tgK S (j.toNat) a b k)))), (8, .int (iI (((gNp S ((j).toNat)) : Nat) : Int))), (7, .ref (ad 3 ((j).toNat))), (5, .ref (ad 0 ((j).toNat))), (0, .ref (ad 6 0)), (1, .int (iI j)), (2, .int (iI a)), (3, .int (iI b)), (4, .int (iI x))] → W P_ l e_ (gR 9 5 32) s M_ ([.ref (ad 6 0), .int (iI j), .int (iI a), .int (iI b), .int (iI x)] : List Value).toArray bl mt_ c_ H locs ((0 + 1) + 2) ((0 + 2) + 12) (vx_MQ bl (gQi (gW (gN S) ad s.heap) (fun z H1 => erC S j a b x = 0 ∧ z = gCf S (j.toNat) (4 * a.toNat + b.toNat) ∧ GP E ad (gset (gset S 1 (j.toNat) (4 * a.toNat + b.toNat) x) 1 (j.toNat) (4 * b.toNat + a.toNat) x) H1)) (gXD (xC (erC S j a b x) [nIx, nAr, nSt])) ([.ref (ad 6 0), .int (iI j), .int (iI a), .int (iI b), .int (iI x)] : List Value).toArray s 5 32 (gW (gN S) ad s.heap)) (F0 M_ 102 ls [.int (iI z)])) := by
            intro z ls e_z hl
            subst e_z
            have hl : lv_has ls 11 [(10, .int (iI ((gPh S ((j).toNat)) k))), (9, .int (iI ((k : Nat) : Int))), (6, .int (iI (bZ (tgK S (j.toNat) a b k)))), (8, .int (iI (((gNp S ((j).toNat)) : Nat) : Int))), (7, .ref (ad 3 ((j).toNat))), (5, .ref (ad 0 ((j).toNat))), (0, .ref (ad 6 0)), (1, .int (iI j)), (2, .int (iI a)), (3, .int (iI b)), (4, .int (iI x))] := hl
            refine g_istore (lv' := [(6, .int (iI (bZ (tgK S (j.toNat) a b (k + 1))))), (10, .int (iI ((gPh S ((j).toNat)) k))), (9, .int (iI ((k : Nat) : Int))), (8, .int (iI (((gNp S ((j).toNat)) : Nat) : Int))), (7, .ref (ad 3 ((j).toNat))), (5, .ref (ad 0 ((j).toNat))), (0, .ref (ad 6 0)), (1, .int (iI j)), (2, .int (iI a)), (3, .int (iI b)), (4, .int (iI x))]) X dX1_setConflict_102 hl (by decide) rfl (fun ls hl => ?_)
            refine g_iinc (lv' := [(9, .int (iI (((k : Nat) : Int) + 1))), (6, .int (iI (bZ (tgK S (j.toNat) a b (k + 1))))), (10, .int (iI ((gPh S ((j).toNat)) k))), (8, .int (iI (((gNp S ((j).toNat)) : Nat) : Int))), (7, .ref (ad 3 ((j).toNat))), (5, .ref (ad 0 ((j).toNat))), (0, .ref (ad 6 0)), (1, .int (iI j)), (2, .int (iI a)), (3, .int (iI b)), (4, .int (iI x))]) X dX1_setConflict_104 hl (k := 2) rfl (by decide) rfl (fun ls hl => ?_)
            refine g_goto X dX1_setConflict_107 (tgt := 60) (by decide) ?_
            exact ih_60.out (k + 1) (((k : Nat) : Int) + 1) (bZ (tgK S (j.toNat) a b (k + 1))) (by omega) (by omega) (rfl) (by omega) _ (lv_sub hl [0, 1, 3, 4, 5, 6, 7, 8, 9, 10] rfl)
          refine g_iload X dX1_setConflict_74 hl 2 rfl ?_
          refine g_if_ne X dX1_setConflict_76 (tgt := 97) (by decide) (by omega) (fun c76 => ?_) (fun c76 => ?_)
          · refine g_iconst X dX1_setConflict_97 ?_
            refine g_goto X dX1_setConflict_98 (tgt := 102) (by decide) ?_
            exact join_102.out 1 _ (by simp only [tgK]; grind [bZ]) (lv_sub hl [0, 1, 2, 3, 4, 5, 6, 7, 8, 9, 10] rfl)
          · refine g_iload X dX1_setConflict_79 hl 0 rfl ?_
            refine g_iload_n X dX1_setConflict_81 rfl hl 8 rfl ?_
            refine g_pS X hk (As := [.int (iI ((gPh S ((j).toNat)) k)), .int (iI a)]) (rest := []) (p_has l E ((gPh S ((j).toNat)) k) a H) 2 (lw_S q323 q324 q46 q325) (by decide +kernel) ⟨⟨Nat.le_of_ble_eq_true rfl, Nat.le_of_ble_eq_true rfl⟩, Nat.le_of_ble_eq_true rfl, Nat.le_of_ble_eq_true rfl⟩ rfl rfl hl.1 (Nat.le_of_ble_eq_true rfl) dX1_setConflict_82 ?_
            have h85 := bZ_le (hasB (gPh S (j.toNat) k) a)
            refine g_if_eq X dX1_setConflict_85 (tgt := 101) (by decide) (by omega) (fun c85 => ?_) (fun c85 => ?_)
            · refine g_iconst X dX1_setConflict_101 ?_
              exact join_102.out 0 _ (by simp only [tgK]; grind [bZ]) (lv_sub hl [0, 1, 2, 3, 4, 5, 6, 7, 8, 9, 10] rfl)
            · refine g_iload X dX1_setConflict_88 hl 0 rfl ?_
              refine g_iload_n X dX1_setConflict_90 rfl hl 9 rfl ?_
              refine g_pS X hk (As := [.int (iI ((gPh S ((j).toNat)) k)), .int (iI b)]) (rest := []) (p_has l E ((gPh S ((j).toNat)) k) b H) 2 (lw_S q323 q324 q46 q325) (by decide +kernel) ⟨⟨Nat.le_of_ble_eq_true rfl, Nat.le_of_ble_eq_true rfl⟩, Nat.le_of_ble_eq_true rfl, Nat.le_of_ble_eq_true rfl⟩ rfl rfl hl.1 (Nat.le_of_ble_eq_true rfl) dX1_setConflict_91 ?_
              have h94 := bZ_le (hasB (gPh S (j.toNat) k) b)
              refine g_if_eq X dX1_setConflict_94 (tgt := 101) (by decide) (by omega) (fun c94 => ?_) (fun c94 => ?_)
              · refine g_iconst X dX1_setConflict_101 ?_
                exact join_102.out 0 _ (by simp only [tgK]; grind [bZ]) (lv_sub hl [0, 1, 2, 3, 4, 5, 6, 7, 8, 9, 10] rfl)
              · refine g_iconst X dX1_setConflict_97 ?_
                refine g_goto X dX1_setConflict_98 (tgt := 102) (by decide) ?_
                exact join_102.out 1 _ (by simp only [tgK]; grind [bZ]) (lv_sub hl [0, 1, 2, 3, 4, 5, 6, 7, 8, 9, 10] rfl)
    exact loop_60.out (gNp S (j.toNat) + 1) 0 0 0 (by omega) (rfl) (rfl) (by omega) _ (lv_sub hl [0, 3, 1, 2, 4, 5, 6, 7, 8, 9] rfl)
  refine g_iload_n X dX1_setConflict_18 rfl hl 3 rfl ?_
  refine g_iload_n X dX1_setConflict_19 rfl hl 4 rfl ?_
  refine g_icmp_eq X dX1_setConflict_20 (tgt := 38) (by decide) (by omega) (fun c20 => ?_) (fun c20 => ?_)
  · refine g_iconst X dX1_setConflict_38 ?_
    exact join_39.out 0 _ (by grind [bZ]) (lv_sub hl [0, 1, 2, 3, 4, 5] rfl)
  · refine g_iload X dX1_setConflict_23 hl 5 rfl ?_
    refine g_iconst X dX1_setConflict_25 ?_
    refine g_bipush X dX1_setConflict_26 rfl ?_
    refine g_pS X hk (As := [.int (iI x), .int (iI (-1)), .int (iI 9)]) (rest := []) (p_inRange l E x (-1) 9 H (by omega) (by omega) (by omega)) 3 (lw_S q185 q186 q46 q187) (by decide +kernel) ⟨⟨Nat.le_of_ble_eq_true rfl, Nat.le_of_ble_eq_true rfl⟩, Nat.le_of_ble_eq_true rfl, Nat.le_of_ble_eq_true rfl⟩ rfl rfl hl.1 (Nat.le_of_ble_eq_true rfl) dX1_setConflict_28 ?_
    have h31 := bZ_le (decide (-1 ≤ x ∧ x ≤ 9))
    refine g_if_eq X dX1_setConflict_31 (tgt := 38) (by decide) (by omega) (fun c31 => ?_) (fun c31 => ?_)
    · refine g_iconst X dX1_setConflict_38 ?_
      exact join_39.out 0 _ (by grind [bZ]) (lv_sub hl [0, 1, 2, 3, 4, 5] rfl)
    · refine g_iconst X dX1_setConflict_34 ?_
      refine g_goto X dX1_setConflict_35 (tgt := 39) (by decide) ?_
      exact join_39.out 1 _ (by grind [bZ]) (lv_sub hl [0, 1, 2, 3, 4, 5] rfl)
set_option maxHeartbeats 4000000 in
theorem p_setPhases (l : Launch) (E : EP) (hst : l.stackTraces = false) (ad : Nat → Nat → Nat) (S : GS) (j a b c d : Int) (H : Heap) (hP : GP E ad S H) (hI : gI S) (hj : -2147483648 ≤ j ∧ j ≤ 2147483647) (ha : -2147483648 ≤ a ∧ a ≤ 2147483647) (hb : -2147483648 ≤ b ∧ b ≤ 2147483647) (hc : -2147483648 ≤ c ∧ c ≤ 2147483647) (hd : -2147483648 ≤ d ∧ d ≤ 2147483647) : gCi l E yX1_setPhases cX1_setPhases 11 .int 9 5 32 H [.ref (ad 6 0), .int (iI j), .int (iI a), .int (iI b), .int (iI c), .int (iI d)] (gW (gN S) ad H) (fun z H1 => erP S j a b c d = 0 ∧ z = (phN4 b c d : Int) ∧ ∃ ad1, GP E ad1 (gphs S (j.toNat) (phN4 b c d) (phF a b c d)) H1 ∧ adW (gN S) (gN S) ad H ad1) (xC (erP S j a b c d) [nIx, nAr, nSt]) := by
  refine g_metX (by decide) (Nat.le_of_ble_eq_true rfl) (fun P_ e_ s M_ bl mt_ c_ ls X hno_ hk hh hl => ?_)
  subst hh
  have X : gX P_ s M_ mt_ c_ cX1_setPhases 11 ([.ref (ad 6 0), .int (iI j), .int (iI a), .int (iI b), .int (iI c), .int (iI d)] : List Value).toArray RX1 (some .int) := X
  have hl : lv_has ls 11 [(0, .ref (ad 6 0)), (1, .int (iI j)), (2, .int (iI a)), (3, .int (iI b)), (4, .int (iI c)), (5, .int (iI d))] := hl
  have hS : va_S (nA s.heap) s.heap s.heap [] := va_S.rf
  have hN0 : eN E ≤ s.heap.size := hk.N
  have hA0_ := GP.lts hP
  have hn5 := hI.1.1
  have hc := hI.2.1
  have hrun := hI.1.2.1
  have hnow := hI.1.2.2
  have hph4 := phN4_le b c d
  refine g_aload_n X dX1_setPhases_0 rfl hl 0 rfl ?_
  refine g_iload_n X dX1_setPhases_1 rfl hl 1 rfl ?_
  refine g_xcallrE (g_xrunV X hk (As := [.int (iI j)]) (rest := []) rfl (GP.X hP) (p_junctionAt l E hst ad S j s.heap hP hI (by omega)) 1 (lw_V q301 q303 qs3 q46 q304) (by decide +kernel) ⟨⟨Nat.le_of_ble_eq_true rfl, Nat.le_of_ble_eq_true rfl⟩, Nat.le_of_ble_eq_true rfl, Nat.le_of_ble_eq_true rfl⟩ rfl rfl hl.1 (Nat.le_of_ble_eq_true rfl) dX1_setPhases_2) X hno_ hk hS (fun q h => Nat.le_trans hS.1 h) (fun q h => Nat.le_trans hk.N h) (fun q h => Or.inr h) (fun Ex h => by obtain ⟨h1, rfl⟩ := h.one; exact ⟨0, by unfold erP; revert h1; unfold erJ; grind, rfl⟩) ⟨Nat.le_of_ble_eq_true rfl, Nat.le_of_ble_eq_true rfl⟩ (fun locs hB2 hS => ?_)
  have hj1 : (j).toNat < gN S := by omega
  refine g_astore (lv' := [(6, .ref (ad 0 ((j).toNat))), (0, .ref (ad 6 0)), (1, .int (iI j)), (2, .int (iI a)), (3, .int (iI b)), (4, .int (iI c)), (5, .int (iI d))]) X dX1_setPhases_5 hl (by decide) rfl (fun ls hl => ?_)
  have join_71 : gHide (∀ (z : Int) (ls : Array Slot), z = (bZ (decide ((1 ≤ a ∧ a ≤ 15) ∧ (0 ≤ b ∧ b ≤ 15) ∧ (0 ≤ c ∧ c ≤ (if b = 0 then 0 else 15)) ∧ (0 ≤ d ∧ d ≤ (if c = 0 then 0 else 15))))) → lv_has ls 11 [(6, .ref (ad 0 ((j).toNat))), (0, .ref (ad 6 0)), (1, .int (iI j)), (2, .int (iI a)), (3, .int (iI b)), (4, .int (iI c)), (5, .int (iI d))] → W P_ l e_ (gR 9 5 32) s M_ ([.ref (ad 6 0), .int (iI j), .int (iI a), .int (iI b), .int (iI c), .int (iI d)] : List Value).toArray bl mt_ c_ s.heap locs (0 + 1) (0 + 6) (vx_MQ bl (gQi (gW (gN S) ad s.heap) (fun z H1 => erP S j a b c d = 0 ∧ z = (phN4 b c d : Int) ∧ ∃ ad1, GP E ad1 (gphs S (j.toNat) (phN4 b c d) (phF a b c d)) H1 ∧ adW (gN S) (gN S) ad s.heap ad1)) (gXD (xC (erP S j a b c d) [nIx, nAr, nSt])) ([.ref (ad 6 0), .int (iI j), .int (iI a), .int (iI b), .int (iI c), .int (iI d)] : List Value).toArray s 5 32 (gW (gN S) ad s.heap)) (F0 M_ 71 ls [.int (iI z)])) := by
    intro z ls e_z hl
    subst e_z
    have hl : lv_has ls 11 [(6, .ref (ad 0 ((j).toNat))), (0, .ref (ad 6 0)), (1, .int (iI j)), (2, .int (iI a)), (3, .int (iI b)), (4, .int (iI c)), (5, .int (iI d))] := hl
    have hz71 := bZ_le (decide ((1 ≤ a ∧ a ≤ 15) ∧ (0 ≤ b ∧ b ≤ 15) ∧ (0 ≤ c ∧ c ≤ (if b = 0 then 0 else 15)) ∧ (0 ≤ d ∧ d ≤ (if c = 0 then 0 else 15))))
    refine (show (bZ (decide ((1 ≤ a ∧ a ≤ 15) ∧ (0 ≤ b ∧ b ≤ 15) ∧ (0 ≤ c ∧ c ≤ (if b = 0 then 0 else 15)) ∧ (0 ≤ d ∧ d ≤ (if c = 0 then 0 else 15))))) = 0 ∨ (bZ (decide ((1 ≤ a ∧ a ≤ 15) ∧ (0 ≤ b ∧ b ≤ 15) ∧ (0 ≤ c ∧ c ≤ (if b = 0 then 0 else 15)) ∧ (0 ≤ d ∧ d ≤ (if c = 0 then 0 else 15))))) = 1 by omega).elim (fun z71 => ?_) (fun z71 => ?_)
    · exact g_thxS X hno_ hk (As := [.int (iI (bZ (decide ((1 ≤ a ∧ a ≤ 15) ∧ (0 ≤ b ∧ b ≤ 15) ∧ (0 ≤ c ∧ c ≤ (if b = 0 then 0 else 15)) ∧ (0 ≤ d ∧ d ≤ (if c = 0 then 0 else 15))))))]) (rest := []) (rq_Argument_t l E hst s.heap (bZ (decide ((1 ≤ a ∧ a ≤ 15) ∧ (0 ≤ b ∧ b ≤ 15) ∧ (0 ≤ c ∧ c ≤ (if b = 0 then 0 else 15)) ∧ (0 ≤ d ∧ d ≤ (if c = 0 then 0 else 15))))) z71) 1 (lw_S q188 q189 q46 q190) (by decide +kernel) ⟨⟨Nat.le_of_ble_eq_true rfl, Nat.le_of_ble_eq_true rfl⟩, Nat.le_of_ble_eq_true rfl, Nat.le_of_ble_eq_true rfl⟩ rfl rfl hl.1 (Nat.le_of_ble_eq_true rfl) dX1_setPhases_71 hS (fun q h => Or.inr h) (⟨1, by unfold erP; rw [if_neg (fun q => q hB2), if_pos (by grind [bZ])]; rfl, rfl⟩) ⟨Nat.le_of_ble_eq_true rfl, Nat.le_of_ble_eq_true rfl⟩
    refine g_callE (g_runS X hk (As := [.int (iI (bZ (decide ((1 ≤ a ∧ a ≤ 15) ∧ (0 ≤ b ∧ b ≤ 15) ∧ (0 ≤ c ∧ c ≤ (if b = 0 then 0 else 15)) ∧ (0 ≤ d ∧ d ≤ (if c = 0 then 0 else 15))))))]) (rest := []) (rq_Argument l E s.heap (bZ (decide ((1 ≤ a ∧ a ≤ 15) ∧ (0 ≤ b ∧ b ≤ 15) ∧ (0 ≤ c ∧ c ≤ (if b = 0 then 0 else 15)) ∧ (0 ≤ d ∧ d ≤ (if c = 0 then 0 else 15))))) z71) 1 (lw_S q188 q189 q46 q190) (by decide +kernel) ⟨⟨Nat.le_of_ble_eq_true rfl, Nat.le_of_ble_eq_true rfl⟩, Nat.le_of_ble_eq_true rfl, Nat.le_of_ble_eq_true rfl⟩ rfl rfl hl.1 (Nat.le_of_ble_eq_true rfl) dX1_setPhases_71) ?_
    have h71 : (1 ≤ a ∧ a ≤ 15) ∧ (0 ≤ b ∧ b ≤ 15) ∧ (0 ≤ c ∧ c ≤ (if b = 0 then 0 else 15)) ∧ (0 ≤ d ∧ d ≤ (if c = 0 then 0 else 15)) := by grind [bZ]
    have join_124 : gHide (∀ (z : Int) (ls : Array Slot), z = (bZ (decide (gRun S = 0 ∧ pcf4 S (j.toNat) a b c d = true))) → lv_has ls 11 [(6, .ref (ad 0 ((j).toNat))), (0, .ref (ad 6 0)), (1, .int (iI j)), (2, .int (iI a)), (3, .int (iI b)), (4, .int (iI c)), (5, .int (iI d))] → W P_ l e_ (gR 9 5 32) s M_ ([.ref (ad 6 0), .int (iI j), .int (iI a), .int (iI b), .int (iI c), .int (iI d)] : List Value).toArray bl mt_ c_ s.heap locs (0 + 1) (0 + 6) (vx_MQ bl (gQi (gW (gN S) ad s.heap) (fun z H1 => erP S j a b c d = 0 ∧ z = (phN4 b c d : Int) ∧ ∃ ad1, GP E ad1 (gphs S (j.toNat) (phN4 b c d) (phF a b c d)) H1 ∧ adW (gN S) (gN S) ad s.heap ad1)) (gXD (xC (erP S j a b c d) [nIx, nAr, nSt])) ([.ref (ad 6 0), .int (iI j), .int (iI a), .int (iI b), .int (iI c), .int (iI d)] : List Value).toArray s 5 32 (gW (gN S) ad s.heap)) (F0 M_ 124 ls [.int (iI z)])) := by
      intro z ls e_z hl
      subst e_z
      have hl : lv_has ls 11 [(6, .ref (ad 0 ((j).toNat))), (0, .ref (ad 6 0)), (1, .int (iI j)), (2, .int (iI a)), (3, .int (iI b)), (4, .int (iI c)), (5, .int (iI d))] := hl
      have hz124 := bZ_le (decide (gRun S = 0 ∧ pcf4 S (j.toNat) a b c d = true))
      refine (show (bZ (decide (gRun S = 0 ∧ pcf4 S (j.toNat) a b c d = true))) = 0 ∨ (bZ (decide (gRun S = 0 ∧ pcf4 S (j.toNat) a b c d = true))) = 1 by omega).elim (fun z124 => ?_) (fun z124 => ?_)
      · exact g_thxS X hno_ hk (As := [.int (iI (bZ (decide (gRun S = 0 ∧ pcf4 S (j.toNat) a b c d = true))))]) (rest := []) (rq_State_t l E hst s.heap (bZ (decide (gRun S = 0 ∧ pcf4 S (j.toNat) a b c d = true))) z124) 1 (lw_S q326 q327 q46 q328) (by decide +kernel) ⟨⟨Nat.le_of_ble_eq_true rfl, Nat.le_of_ble_eq_true rfl⟩, Nat.le_of_ble_eq_true rfl, Nat.le_of_ble_eq_true rfl⟩ rfl rfl hl.1 (Nat.le_of_ble_eq_true rfl) dX1_setPhases_124 hS (fun q h => Or.inr h) (⟨2, by unfold erP; rw [if_neg (fun q => q hB2), if_neg (fun q => q h71), if_pos (by grind [bZ])]; rfl, rfl⟩) ⟨Nat.le_of_ble_eq_true rfl, Nat.le_of_ble_eq_true rfl⟩
      refine g_callE (g_runS X hk (As := [.int (iI (bZ (decide (gRun S = 0 ∧ pcf4 S (j.toNat) a b c d = true))))]) (rest := []) (rq_State l E s.heap (bZ (decide (gRun S = 0 ∧ pcf4 S (j.toNat) a b c d = true))) z124) 1 (lw_S q326 q327 q46 q328) (by decide +kernel) ⟨⟨Nat.le_of_ble_eq_true rfl, Nat.le_of_ble_eq_true rfl⟩, Nat.le_of_ble_eq_true rfl, Nat.le_of_ble_eq_true rfl⟩ rfl rfl hl.1 (Nat.le_of_ble_eq_true rfl) dX1_setPhases_124) ?_
      have h124 : gRun S = 0 ∧ pcf4 S (j.toNat) a b c d = true := by grind [bZ]
      refine g_iconst X dX1_setPhases_127 ?_
      have hs0_ := hS.1
      refine g_newI X hk hS (N := 4) (by first | rfl | omega) (by omega) ⟨Nat.le_of_ble_eq_true rfl, Nat.le_of_ble_eq_true rfl⟩ dX1_setPhases_128 (fun qf H hq_ hc_ hk hz_ ho_ hS => ?_)
      have hF : ce E qf (aI E 4 (fun _ => 0)) H := hc_
      have hF_g : s.heap.size ≤ qf := by omega
      have lk_ := lk_new (s0 := s.heap.size) ho_
      have hP := GP.new hP ho_
      refine g_dup X dX1_setPhases_130 rfl ?_
      refine g_iconst X dX1_setPhases_131 ?_
      refine g_iload_n X dX1_setPhases_132 rfl hl 3 rfl ?_
      refine g_iast X hk hS ⟨hF_g, Nat.le_trans hN0 hF_g⟩ (j := 0) (n := 4) (f := (fun _ => 0)) hF (rfl) (by omega) dX1_setPhases_133 (fun H locs hc_ hk hz_ ho_ hS => ?_)
      have hP := GP.loc hP hA0_ hF_g ho_
      have hF : ce E qf (aI E 4 (uI (fun _ => 0) 0 a)) H := hc_
      refine g_dup X dX1_setPhases_134 rfl ?_
      refine g_iconst X dX1_setPhases_135 ?_
      refine g_iload_n X dX1_setPhases_136 rfl hl 4 rfl ?_
      refine g_iast X hk hS ⟨hF_g, Nat.le_trans hN0 hF_g⟩ (j := 1) (n := 4) (f := (uI (fun _ => 0) 0 a)) hF (rfl) (by omega) dX1_setPhases_137 (fun H locs hc_ hk hz_ ho_ hS => ?_)
      have hP := GP.loc hP hA0_ hF_g ho_
      have hF : ce E qf (aI E 4 (uI (uI (fun _ => 0) 0 a) 1 b)) H := hc_
      refine g_dup X dX1_setPhases_138 rfl ?_
      refine g_iconst X dX1_setPhases_139 ?_
      refine g_iload X dX1_setPhases_140 hl 5 rfl ?_
      refine g_iast X hk hS ⟨hF_g, Nat.le_trans hN0 hF_g⟩ (j := 2) (n := 4) (f := (uI (uI (fun _ => 0) 0 a) 1 b)) hF (rfl) (by omega) dX1_setPhases_142 (fun H locs hc_ hk hz_ ho_ hS => ?_)
      have hP := GP.loc hP hA0_ hF_g ho_
      have hF : ce E qf (aI E 4 (uI (uI (uI (fun _ => 0) 0 a) 1 b) 2 c)) H := hc_
      refine g_dup X dX1_setPhases_143 rfl ?_
      refine g_iconst X dX1_setPhases_144 ?_
      refine g_iload X dX1_setPhases_145 hl 6 rfl ?_
      refine g_iast X hk hS ⟨hF_g, Nat.le_trans hN0 hF_g⟩ (j := 3) (n := 4) (f := (uI (uI (uI (fun _ => 0) 0 a) 1 b) 2 c)) hF (rfl) (by omega) dX1_setPhases_147 (fun H locs hc_ hk hz_ ho_ hS => ?_)
      have hP := GP.loc hP hA0_ hF_g ho_
      have hF : ce E qf (aI E 4 (uI (uI (uI (uI (fun _ => 0) 0 a) 1 b) 2 c) 3 d)) H := hc_
      have hF : ce E qf (aI E 4 (phF a b c d)) H := ce_I hF (fun i hi => by rcases (show i = 0 ∨ i = 1 ∨ i = 2 ∨ i = 3 by omega) with rfl | rfl | rfl | rfl <;> rfl)
      have hpr : ∀ i, -15 ≤ phF a b c d i ∧ phF a b c d i ≤ 15 := fun i => by have h1 := h71.2.2.1; have h2 := h71.2.2.2; unfold phF; split <;> (try split) <;> (try split) <;> (split at h1 <;> split at h2 <;> omega)
      refine g_astore (lv' := [(7, .ref qf), (6, .ref (ad 0 ((j).toNat))), (0, .ref (ad 6 0)), (1, .int (iI j)), (2, .int (iI a)), (3, .int (iI b)), (4, .int (iI c)), (5, .int (iI d))]) X dX1_setPhases_148 hl (by decide) rfl (fun ls hl => ?_)
      have join_173 : gHide (∀ (v8 : Int) (ls : Array Slot), v8 = (((phN4 b c d) : Nat) : Int) → lv_has ls 11 [(8, .int (iI v8)), (7, .ref qf), (6, .ref (ad 0 ((j).toNat))), (0, .ref (ad 6 0)), (1, .int (iI j)), (2, .int (iI a)), (3, .int (iI b)), (4, .int (iI c)), (5, .int (iI d))] → W P_ l e_ (gR 9 5 32) s M_ ([.ref (ad 6 0), .int (iI j), .int (iI a), .int (iI b), .int (iI c), .int (iI d)] : List Value).toArray bl mt_ c_ H locs ((0 + 1) + 1) ((0 + 6) + 4) (vx_MQ bl (gQi (gW (gN S) ad s.heap) (fun z H1 => erP S j a b c d = 0 ∧ z = (phN4 b c d : Int) ∧ ∃ ad1, GP E ad1 (gphs S (j.toNat) (phN4 b c d) (phF a b c d)) H1 ∧ adW (gN S) (gN S) ad s.heap ad1)) (gXD (xC (erP S j a b c d) [nIx, nAr, nSt])) ([.ref (ad 6 0), .int (iI j), .int (iI a), .int (iI b), .int (iI c), .int (iI d)] : List Value).toArray s 5 32 (gW (gN S) ad s.heap)) (F0 M_ 173 ls [])) := by
        intro v8 ls e_v8 hl
        subst e_v8
        have hl : lv_has ls 11 [(8, .int (iI (((phN4 b c d) : Nat) : Int))), (7, .ref qf), (6, .ref (ad 0 ((j).toNat))), (0, .ref (ad 6 0)), (1, .int (iI j)), (2, .int (iI a)), (3, .int (iI b)), (4, .int (iI c)), (5, .int (iI d))] := hl
        refine g_iload X dX1_setPhases_173 hl 0 rfl ?_
        have hs0_ := hS.1
        refine g_newI X hk hS (N := (phN4 b c d)) (by first | rfl | omega) (by omega) ⟨Nat.le_of_ble_eq_true rfl, by show ((0 + 6) + 4) + (phN4 b c d) ≤ 32; omega⟩ dX1_setPhases_175 (fun qp H hq_ hc_ hk hz_ ho_ hS => ?_)
        have hG : ce E qp (aI E (phN4 b c d) (fun _ => 0)) H := hc_
        have hG_g : s.heap.size ≤ qp := by omega
        have lt_hF_hG : qf < qp := by have := hF.lt; omega
        have lk_ := lk_new (s0 := s.heap.size) ho_
        have hP := GP.new hP ho_
        have hF := hF.kept (lk_ _ hF_g hF.lt)
        refine W.widen (k := (((0 + 1) + 1) + 1)) (n := (((0 + 6) + 4) + 4)) (Nat.le_refl _) (by show ((0 + 6) + 4) + (phN4 b c d) ≤ (((0 + 6) + 4) + 4); omega) ?_
        refine g_astore (lv' := [(9, .ref qp), (8, .int (iI (((phN4 b c d) : Nat) : Int))), (7, .ref qf), (6, .ref (ad 0 ((j).toNat))), (0, .ref (ad 6 0)), (1, .int (iI j)), (2, .int (iI a)), (3, .int (iI b)), (4, .int (iI c)), (5, .int (iI d))]) X dX1_setPhases_177 hl (by decide) rfl (fun ls hl => ?_)
        refine g_iconst X dX1_setPhases_179 ?_
        refine g_istore (lv' := [(10, .int (iI 0)), (9, .ref qp), (8, .int (iI (((phN4 b c d) : Nat) : Int))), (7, .ref qf), (6, .ref (ad 0 ((j).toNat))), (0, .ref (ad 6 0)), (1, .int (iI j)), (2, .int (iI a)), (3, .int (iI b)), (4, .int (iI c)), (5, .int (iI d))]) X dX1_setPhases_180 hl (by decide) rfl (fun ls hl => ?_)
        have loop_182 : gHide (∀ (n_ : Nat) (k : Nat) (v10 : Int) (H : Heap) (locs : List Loc), phN4 b c d + 1 ≤ k + n_ → v10 = ((k : Nat) : Int) → (k ≤ phN4 b c d) → (kk E s H) → (GP E ad S H) → (va_S (nA s.heap) s.heap H locs) → (ce E qf (aI E 4 (phF a b c d)) H) → (ce E qp (aI E (phN4 b c d) (phP a b c d k)) H) → ∀ (ls : Array Slot), lv_has ls 11 [(10, .int (iI v10)), (9, .ref qp), (8, .int (iI (((phN4 b c d) : Nat) : Int))), (7, .ref qf), (6, .ref (ad 0 ((j).toNat))), (0, .ref (ad 6 0)), (1, .int (iI j)), (2, .int (iI a)), (3, .int (iI b)), (4, .int (iI c)), (5, .int (iI d))] → W P_ l e_ (gR 9 5 32) s M_ ([.ref (ad 6 0), .int (iI j), .int (iI a), .int (iI b), .int (iI c), .int (iI d)] : List Value).toArray bl mt_ c_ H locs (((0 + 1) + 1) + 1) (((0 + 6) + 4) + 4) (vx_MQ bl (gQi (gW (gN S) ad s.heap) (fun z H1 => erP S j a b c d = 0 ∧ z = (phN4 b c d : Int) ∧ ∃ ad1, GP E ad1 (gphs S (j.toNat) (phN4 b c d) (phF a b c d)) H1 ∧ adW (gN S) (gN S) ad s.heap ad1)) (gXD (xC (erP S j a b c d) [nIx, nAr, nSt])) ([.ref (ad 6 0), .int (iI j), .int (iI a), .int (iI b), .int (iI c), .int (iI d)] : List Value).toArray s 5 32 (gW (gN S) ad s.heap)) (F0 M_ 182 ls [])) := by
          intro n_
          induction n_ with
          | zero => intro k v10 H locs hb_ e_v10 hkb hk hP hS hF hG ls hl; exact absurd hb_ (by omega)
          | succ n_ ih_182 =>
            replace ih_182 := gHide.mk ih_182
            intro k v10 H locs hb_ e_v10 hkb hk hP hS hF hG ls hl
            subst e_v10
            have hl : lv_has ls 11 [(10, .int (iI ((k : Nat) : Int))), (9, .ref qp), (8, .int (iI (((phN4 b c d) : Nat) : Int))), (7, .ref qf), (6, .ref (ad 0 ((j).toNat))), (0, .ref (ad 6 0)), (1, .int (iI j)), (2, .int (iI a)), (3, .int (iI b)), (4, .int (iI c)), (5, .int (iI d))] := hl
            refine g_iload X dX1_setPhases_182 hl 0 rfl ?_
            refine g_iload X dX1_setPhases_184 hl 2 rfl ?_
            refine g_icmp_ge X dX1_setPhases_186 (tgt := 205) (by decide) (by omega) (fun c186 => ?_) (fun c186 => ?_)
            · have ekp : k = phN4 b c d := by omega
              have hG : ce E qp (aI E (phN4 b c d) (phF a b c d)) H := ce_I hG (fun i hi => by unfold phP; rw [if_pos (by omega)])
              refine g_aload X dX1_setPhases_205 hl 4 rfl ?_
              refine g_aload X dX1_setPhases_207 hl 1 rfl ?_
              have hS : va_S (gW (gN S) ad s.heap) s.heap H _ := g_ws hS (fun q h => Or.inr h)
              have hGn : ∀ k i, gv (gN S) k i → ad k i ≠ qp := fun k i hv e => by have := hA0_ k i hv; omega
              refine g_putN X hk hS ⟨Or.inl ⟨0, ((j).toNat), gv_0 (by decide) (by omega), rfl⟩, hP.2.2 _ _ (gv_0 (by decide) hj1)⟩ in_X2 tyX2 tyX2_ok nmX2 rfl (GP.J hP hj1) 3 (by decide) 3 rfl rfl (ty := .array .int) (by decide +kernel) rfl rfl (Nat.le_of_ble_eq_true rfl) dX1_setPhases_209 (fun H locs hc_ hk hz_ ho_ hS => ?_)
              have hG := hG.kept (ho_ _ (fun e => hGn 0 ((j).toNat) (gv_0 (by decide) hj1) e.symm))
              have hP : GP E (adset ad 3 ((j).toNat) qp) (gphs S ((j).toNat) (phN4 b c d) (phF a b c d)) H := GP.phs hP hj1 hGn (Nat.le_trans hN0 hG_g) hc_ hG ho_
              refine g_iload X dX1_setPhases_212 hl 2 rfl ?_
              exact vx_ret (g_iret X hS (⟨by unfold erP; rw [if_neg (fun q => q hB2), if_neg (fun q => q h71), if_neg (by grind)], rfl, adset ad 3 (j.toNat) qp, hP, rfl, adset_W hG_g⟩) ⟨Nat.le_of_ble_eq_true rfl, Nat.le_of_ble_eq_true rfl⟩ dX1_setPhases_214)
            · refine g_aload X dX1_setPhases_189 hl 1 rfl ?_
              refine g_iload X dX1_setPhases_191 hl 0 rfl ?_
              refine g_aload X dX1_setPhases_193 hl 3 rfl ?_
              refine g_iload X dX1_setPhases_195 hl 0 rfl ?_
              refine g_ialdv X hk (j := k) (n := 4) (f := (phF a b c d)) (v := ((phF a b c d) k)) hF (rfl) (by omega) (rfl) dX1_setPhases_197 ?_
              refine g_iast X hk hS ⟨hG_g, Nat.le_trans hN0 hG_g⟩ (j := k) (n := (phN4 b c d)) (f := (phP a b c d k)) hG (rfl) (by omega) dX1_setPhases_198 (fun H locs hc_ hk hz_ ho_ hS => ?_)
              have hP := GP.loc hP hA0_ hG_g ho_
              have hG : ce E qp (aI E (phN4 b c d) (uI (phP a b c d k) k ((phF a b c d) k))) H := hc_
              have hG : ce E qp (aI E (phN4 b c d) (phP a b c d (k + 1))) H := ce_I hG (fun i _ => congrFun (phP_s a b c d k) i)
              have hF := hF.kept (ho_ _ (Nat.ne_of_lt lt_hF_hG))
              refine g_iinc (lv' := [(10, .int (iI (((k : Nat) : Int) + 1))), (9, .ref qp), (8, .int (iI (((phN4 b c d) : Nat) : Int))), (7, .ref qf), (6, .ref (ad 0 ((j).toNat))), (0, .ref (ad 6 0)), (1, .int (iI j)), (2, .int (iI a)), (3, .int (iI b)), (4, .int (iI c)), (5, .int (iI d))]) X dX1_setPhases_199 hl (k := 0) rfl (by decide) rfl (fun ls hl => ?_)
              refine g_goto X dX1_setPhases_202 (tgt := 182) (by decide) ?_
              exact ih_182.out (k + 1) (((k : Nat) : Int) + 1) H locs (by omega) (by omega) (by omega) hk hP hS hF hG _ (lv_sub hl [0, 1, 2, 3, 4, 5, 6, 7, 8, 9, 10] rfl)
        exact loop_182.out (phN4 b c d + 1) 0 0 H locs (by omega) (rfl) (by omega) hk hP hS hF (ce_I hG (fun i hi => by unfold phP; rw [if_neg (by omega)])) _ (lv_sub hl [0, 1, 2, 3, 4, 5, 6, 7, 8, 9, 10] rfl)
      refine g_iconst X dX1_setPhases_150 ?_
      refine g_istore (lv' := [(8, .int (iI 0)), (7, .ref qf), (6, .ref (ad 0 ((j).toNat))), (0, .ref (ad 6 0)), (1, .int (iI j)), (2, .int (iI a)), (3, .int (iI b)), (4, .int (iI c)), (5, .int (iI d))]) X dX1_setPhases_151 hl (by decide) rfl (fun ls hl => ?_)
      have loop_153 : gHide (∀ (n_ : Nat) (k : Nat) (v8 : Int), 5 ≤ k + n_ → v8 = ((k : Nat) : Int) → (k ≤ 4) → (∀ i, i < k → ¬ phF a b c d i = 0) → ∀ (ls : Array Slot), lv_has ls 11 [(8, .int (iI v8)), (7, .ref qf), (6, .ref (ad 0 ((j).toNat))), (0, .ref (ad 6 0)), (1, .int (iI j)), (2, .int (iI a)), (3, .int (iI b)), (4, .int (iI c)), (5, .int (iI d))] → W P_ l e_ (gR 9 5 32) s M_ ([.ref (ad 6 0), .int (iI j), .int (iI a), .int (iI b), .int (iI c), .int (iI d)] : List Value).toArray bl mt_ c_ H locs ((0 + 1) + 1) ((0 + 6) + 4) (vx_MQ bl (gQi (gW (gN S) ad s.heap) (fun z H1 => erP S j a b c d = 0 ∧ z = (phN4 b c d : Int) ∧ ∃ ad1, GP E ad1 (gphs S (j.toNat) (phN4 b c d) (phF a b c d)) H1 ∧ adW (gN S) (gN S) ad s.heap ad1)) (gXD (xC (erP S j a b c d) [nIx, nAr, nSt])) ([.ref (ad 6 0), .int (iI j), .int (iI a), .int (iI b), .int (iI c), .int (iI d)] : List Value).toArray s 5 32 (gW (gN S) ad s.heap)) (F0 M_ 153 ls [])) := by
        intro n_
        induction n_ with
        | zero => intro k v8 hb_ e_v8 hkb hv ls hl; exact absurd hb_ (by omega)
        | succ n_ ih_153 =>
          replace ih_153 := gHide.mk ih_153
          intro k v8 hb_ e_v8 hkb hv ls hl
          subst e_v8
          have hl : lv_has ls 11 [(8, .int (iI ((k : Nat) : Int))), (7, .ref qf), (6, .ref (ad 0 ((j).toNat))), (0, .ref (ad 6 0)), (1, .int (iI j)), (2, .int (iI a)), (3, .int (iI b)), (4, .int (iI c)), (5, .int (iI d))] := hl
          refine g_iload X dX1_setPhases_153 hl 0 rfl ?_
          refine g_iconst X dX1_setPhases_155 ?_
          refine g_icmp_ge X dX1_setPhases_156 (tgt := 173) (by decide) (by omega) (fun c156 => ?_) (fun c156 => ?_)
          · exact join_173.out ((k : Nat) : Int) _ (by rw [phN4_at h71.1.1 hkb hv (by first | exact Or.inl (by omega) | exact Or.inr c164)]) (lv_sub hl [0, 1, 2, 3, 4, 5, 6, 7, 8] rfl)
          · refine g_aload X dX1_setPhases_159 hl 1 rfl ?_
            refine g_iload X dX1_setPhases_161 hl 0 rfl ?_
            refine g_ialdv X hk (j := k) (n := 4) (f := (phF a b c d)) (v := ((phF a b c d) k)) hF (rfl) (by omega) (rfl) dX1_setPhases_163 ?_
            have hpk := hpr k
            refine g_if_eq X dX1_setPhases_164 (tgt := 173) (by decide) (by omega) (fun c164 => ?_) (fun c164 => ?_)
            · exact join_173.out ((k : Nat) : Int) _ (by rw [phN4_at h71.1.1 hkb hv (by first | exact Or.inl (by omega) | exact Or.inr c164)]) (lv_sub hl [0, 1, 2, 3, 4, 5, 6, 7, 8] rfl)
            · refine g_iinc (lv' := [(8, .int (iI (((k : Nat) : Int) + 1))), (7, .ref qf), (6, .ref (ad 0 ((j).toNat))), (0, .ref (ad 6 0)), (1, .int (iI j)), (2, .int (iI a)), (3, .int (iI b)), (4, .int (iI c)), (5, .int (iI d))]) X dX1_setPhases_167 hl (k := 0) rfl (by decide) rfl (fun ls hl => ?_)
              refine g_goto X dX1_setPhases_170 (tgt := 153) (by decide) ?_
              exact ih_153.out (k + 1) (((k : Nat) : Int) + 1) (by omega) (by omega) (by omega) (fun i hi => by by_cases e : i = k; (rw [e]; exact c164); exact hv i (by omega)) _ (lv_sub hl [0, 1, 2, 3, 4, 5, 6, 7, 8] rfl)
      exact loop_153.out 5 0 0 (by omega) (rfl) (by omega) (fun i hi => absurd hi (Nat.not_lt_zero i)) _ (lv_sub hl [0, 1, 2, 3, 4, 5, 6, 7, 8] rfl)
    refine g_aload_n X dX1_setPhases_74 rfl hl 1 rfl ?_
    refine g_get X hk (v := .int (iI (gRun S))) in_X1 rfl (GP.X hP) 3 (by decide) q145 (rfl) dX1_setPhases_75 ?_
    refine g_if_ne X dX1_setPhases_78 (tgt := 123) (by decide) (by omega) (fun c78 => ?_) (fun c78 => ?_)
    · refine g_iconst X dX1_setPhases_123 ?_
      exact join_124.out 0 _ (by unfold pcf4; grind [bZ]) (lv_sub hl [0, 1, 2, 3, 4, 5, 6] rfl)
    · refine g_aload X dX1_setPhases_81 hl 0 rfl ?_
      refine g_iload_n X dX1_setPhases_83 rfl hl 3 rfl ?_
      refine g_pV X hk (As := [.int (iI a)]) (rest := []) rfl (GP.J hP hj1) (p_isPeaceful l E ad S s.heap hP hI ((j).toNat) hj1 a (by omega)) 1 (lw_V q355 q356 q357 q47 q358) (by decide +kernel) ⟨⟨Nat.le_of_ble_eq_true rfl, Nat.le_of_ble_eq_true rfl⟩, Nat.le_of_ble_eq_true rfl, Nat.le_of_ble_eq_true rfl⟩ rfl rfl hl.1 (Nat.le_of_ble_eq_true rfl) dX1_setPhases_84 ?_
      have h87 := bZ_le (pcfK a (gCf S (j.toNat)) 16)
      refine g_if_eq X dX1_setPhases_87 (tgt := 123) (by decide) (by omega) (fun c87 => ?_) (fun c87 => ?_)
      · refine g_iconst X dX1_setPhases_123 ?_
        exact join_124.out 0 _ (by unfold pcf4; grind [bZ]) (lv_sub hl [0, 1, 2, 3, 4, 5, 6] rfl)
      · refine g_aload X dX1_setPhases_90 hl 0 rfl ?_
        refine g_iload_n X dX1_setPhases_92 rfl hl 4 rfl ?_
        refine g_pV X hk (As := [.int (iI b)]) (rest := []) rfl (GP.J hP hj1) (p_isPeaceful l E ad S s.heap hP hI ((j).toNat) hj1 b (by omega)) 1 (lw_V q355 q356 q357 q47 q358) (by decide +kernel) ⟨⟨Nat.le_of_ble_eq_true rfl, Nat.le_of_ble_eq_true rfl⟩, Nat.le_of_ble_eq_true rfl, Nat.le_of_ble_eq_true rfl⟩ rfl rfl hl.1 (Nat.le_of_ble_eq_true rfl) dX1_setPhases_93 ?_
        have h96 := bZ_le (pcfK b (gCf S (j.toNat)) 16)
        refine g_if_eq X dX1_setPhases_96 (tgt := 123) (by decide) (by omega) (fun c96 => ?_) (fun c96 => ?_)
        · refine g_iconst X dX1_setPhases_123 ?_
          exact join_124.out 0 _ (by unfold pcf4; grind [bZ]) (lv_sub hl [0, 1, 2, 3, 4, 5, 6] rfl)
        · refine g_aload X dX1_setPhases_99 hl 0 rfl ?_
          refine g_iload X dX1_setPhases_101 hl 5 rfl ?_
          refine g_pV X hk (As := [.int (iI c)]) (rest := []) rfl (GP.J hP hj1) (p_isPeaceful l E ad S s.heap hP hI ((j).toNat) hj1 c (by omega)) 1 (lw_V q355 q356 q357 q47 q358) (by decide +kernel) ⟨⟨Nat.le_of_ble_eq_true rfl, Nat.le_of_ble_eq_true rfl⟩, Nat.le_of_ble_eq_true rfl, Nat.le_of_ble_eq_true rfl⟩ rfl rfl hl.1 (Nat.le_of_ble_eq_true rfl) dX1_setPhases_103 ?_
          have h106 := bZ_le (pcfK c (gCf S (j.toNat)) 16)
          refine g_if_eq X dX1_setPhases_106 (tgt := 123) (by decide) (by omega) (fun c106 => ?_) (fun c106 => ?_)
          · refine g_iconst X dX1_setPhases_123 ?_
            exact join_124.out 0 _ (by unfold pcf4; grind [bZ]) (lv_sub hl [0, 1, 2, 3, 4, 5, 6] rfl)
          · refine g_aload X dX1_setPhases_109 hl 0 rfl ?_
            refine g_iload X dX1_setPhases_111 hl 6 rfl ?_
            refine g_pV X hk (As := [.int (iI d)]) (rest := []) rfl (GP.J hP hj1) (p_isPeaceful l E ad S s.heap hP hI ((j).toNat) hj1 d (by omega)) 1 (lw_V q355 q356 q357 q47 q358) (by decide +kernel) ⟨⟨Nat.le_of_ble_eq_true rfl, Nat.le_of_ble_eq_true rfl⟩, Nat.le_of_ble_eq_true rfl, Nat.le_of_ble_eq_true rfl⟩ rfl rfl hl.1 (Nat.le_of_ble_eq_true rfl) dX1_setPhases_113 ?_
            have h116 := bZ_le (pcfK d (gCf S (j.toNat)) 16)
            refine g_if_eq X dX1_setPhases_116 (tgt := 123) (by decide) (by omega) (fun c116 => ?_) (fun c116 => ?_)
            · refine g_iconst X dX1_setPhases_123 ?_
              exact join_124.out 0 _ (by unfold pcf4; grind [bZ]) (lv_sub hl [0, 1, 2, 3, 4, 5, 6] rfl)
            · refine g_iconst X dX1_setPhases_119 ?_
              refine g_goto X dX1_setPhases_120 (tgt := 124) (by decide) ?_
              exact join_124.out 1 _ (by unfold pcf4; grind [bZ]) (lv_sub hl [0, 1, 2, 3, 4, 5, 6] rfl)
  refine g_iload_n X dX1_setPhases_7 rfl hl 3 rfl ?_
  refine g_iconst X dX1_setPhases_8 ?_
  refine g_bipush X dX1_setPhases_9 rfl ?_
  refine g_pS X hk (As := [.int (iI a), .int (iI 1), .int (iI 15)]) (rest := []) (p_inRange l E a 1 15 s.heap (by omega) (by omega) (by omega)) 3 (lw_S q185 q186 q46 q187) (by decide +kernel) ⟨⟨Nat.le_of_ble_eq_true rfl, Nat.le_of_ble_eq_true rfl⟩, Nat.le_of_ble_eq_true rfl, Nat.le_of_ble_eq_true rfl⟩ rfl rfl hl.1 (Nat.le_of_ble_eq_true rfl) dX1_setPhases_11 ?_
  have h14 := bZ_le (decide (1 ≤ a ∧ a ≤ 15))
  refine g_if_eq X dX1_setPhases_14 (tgt := 70) (by decide) (by omega) (fun c14 => ?_) (fun c14 => ?_)
  · refine g_iconst X dX1_setPhases_70 ?_
    exact join_71.out 0 _ (by grind [bZ]) (lv_sub hl [0, 1, 2, 3, 4, 5, 6] rfl)
  · refine g_iload_n X dX1_setPhases_17 rfl hl 4 rfl ?_
    refine g_iconst X dX1_setPhases_18 ?_
    refine g_bipush X dX1_setPhases_19 rfl ?_
    refine g_pS X hk (As := [.int (iI b), .int (iI 0), .int (iI 15)]) (rest := []) (p_inRange l E b 0 15 s.heap (by omega) (by omega) (by omega)) 3 (lw_S q185 q186 q46 q187) (by decide +kernel) ⟨⟨Nat.le_of_ble_eq_true rfl, Nat.le_of_ble_eq_true rfl⟩, Nat.le_of_ble_eq_true rfl, Nat.le_of_ble_eq_true rfl⟩ rfl rfl hl.1 (Nat.le_of_ble_eq_true rfl) dX1_setPhases_21 ?_
    have h24 := bZ_le (decide (0 ≤ b ∧ b ≤ 15))
    refine g_if_eq X dX1_setPhases_24 (tgt := 70) (by decide) (by omega) (fun c24 => ?_) (fun c24 => ?_)
    · refine g_iconst X dX1_setPhases_70 ?_
      exact join_71.out 0 _ (by grind [bZ]) (lv_sub hl [0, 1, 2, 3, 4, 5, 6] rfl)
    · refine g_iload X dX1_setPhases_27 hl 5 rfl ?_
      refine g_iconst X dX1_setPhases_29 ?_
      have join_40 : gHide (∀ (z : Int) (ls : Array Slot), z = (if b = 0 then 0 else 15) → lv_has ls 11 [(6, .ref (ad 0 ((j).toNat))), (0, .ref (ad 6 0)), (1, .int (iI j)), (2, .int (iI a)), (3, .int (iI b)), (4, .int (iI c)), (5, .int (iI d))] → W P_ l e_ (gR 9 5 32) s M_ ([.ref (ad 6 0), .int (iI j), .int (iI a), .int (iI b), .int (iI c), .int (iI d)] : List Value).toArray bl mt_ c_ s.heap locs (0 + 1) (0 + 6) (vx_MQ bl (gQi (gW (gN S) ad s.heap) (fun z H1 => erP S j a b c d = 0 ∧ z = (phN4 b c d : Int) ∧ ∃ ad1, GP E ad1 (gphs S (j.toNat) (phN4 b c d) (phF a b c d)) H1 ∧ adW (gN S) (gN S) ad s.heap ad1)) (gXD (xC (erP S j a b c d) [nIx, nAr, nSt])) ([.ref (ad 6 0), .int (iI j), .int (iI a), .int (iI b), .int (iI c), .int (iI d)] : List Value).toArray s 5 32 (gW (gN S) ad s.heap)) (F0 M_ 40 ls [.int (iI z), .int (iI 0), .int (iI c)])) := by
        intro z ls e_z hl
        subst e_z
        have hl : lv_has ls 11 [(6, .ref (ad 0 ((j).toNat))), (0, .ref (ad 6 0)), (1, .int (iI j)), (2, .int (iI a)), (3, .int (iI b)), (4, .int (iI c)), (5, .int (iI d))] := hl
        have h40 : (0 : Int) ≤ (if b = 0 then 0 else 15) ∧ (if b = 0 then (0 : Int) else 15) ≤ 15 := by split <;> omega
        refine g_pS X hk (As := [.int (iI c), .int (iI 0), .int (iI (if b = 0 then 0 else 15))]) (rest := []) (p_inRange l E c 0 (if b = 0 then 0 else 15) s.heap (by omega) (by omega) (by omega)) 3 (lw_S q185 q186 q46 q187) (by decide +kernel) ⟨⟨Nat.le_of_ble_eq_true rfl, Nat.le_of_ble_eq_true rfl⟩, Nat.le_of_ble_eq_true rfl, Nat.le_of_ble_eq_true rfl⟩ rfl rfl hl.1 (Nat.le_of_ble_eq_true rfl) dX1_setPhases_40 ?_
        have h43 := bZ_le (decide (0 ≤ c ∧ c ≤ (if b = 0 then 0 else 15)))
        refine g_if_eq X dX1_setPhases_43 (tgt := 70) (by decide) (by omega) (fun c43 => ?_) (fun c43 => ?_)
        · refine g_iconst X dX1_setPhases_70 ?_
          exact join_71.out 0 _ (by grind [bZ]) (lv_sub hl [0, 1, 2, 3, 4, 5, 6] rfl)
        · refine g_iload X dX1_setPhases_46 hl 6 rfl ?_
          refine g_iconst X dX1_setPhases_48 ?_
          have join_60 : gHide (∀ (z : Int) (ls : Array Slot), z = (if c = 0 then 0 else 15) → lv_has ls 11 [(6, .ref (ad 0 ((j).toNat))), (0, .ref (ad 6 0)), (1, .int (iI j)), (2, .int (iI a)), (3, .int (iI b)), (4, .int (iI c)), (5, .int (iI d))] → W P_ l e_ (gR 9 5 32) s M_ ([.ref (ad 6 0), .int (iI j), .int (iI a), .int (iI b), .int (iI c), .int (iI d)] : List Value).toArray bl mt_ c_ s.heap locs (0 + 1) (0 + 6) (vx_MQ bl (gQi (gW (gN S) ad s.heap) (fun z H1 => erP S j a b c d = 0 ∧ z = (phN4 b c d : Int) ∧ ∃ ad1, GP E ad1 (gphs S (j.toNat) (phN4 b c d) (phF a b c d)) H1 ∧ adW (gN S) (gN S) ad s.heap ad1)) (gXD (xC (erP S j a b c d) [nIx, nAr, nSt])) ([.ref (ad 6 0), .int (iI j), .int (iI a), .int (iI b), .int (iI c), .int (iI d)] : List Value).toArray s 5 32 (gW (gN S) ad s.heap)) (F0 M_ 60 ls [.int (iI z), .int (iI 0), .int (iI d)])) := by
            intro z ls e_z hl
            subst e_z
            have hl : lv_has ls 11 [(6, .ref (ad 0 ((j).toNat))), (0, .ref (ad 6 0)), (1, .int (iI j)), (2, .int (iI a)), (3, .int (iI b)), (4, .int (iI c)), (5, .int (iI d))] := hl
            have h60 : (0 : Int) ≤ (if c = 0 then 0 else 15) ∧ (if c = 0 then (0 : Int) else 15) ≤ 15 := by split <;> omega
            refine g_pS X hk (As := [.int (iI d), .int (iI 0), .int (iI (if c = 0 then 0 else 15))]) (rest := []) (p_inRange l E d 0 (if c = 0 then 0 else 15) s.heap (by omega) (by omega) (by omega)) 3 (lw_S q185 q186 q46 q187) (by decide +kernel) ⟨⟨Nat.le_of_ble_eq_true rfl, Nat.le_of_ble_eq_true rfl⟩, Nat.le_of_ble_eq_true rfl, Nat.le_of_ble_eq_true rfl⟩ rfl rfl hl.1 (Nat.le_of_ble_eq_true rfl) dX1_setPhases_60 ?_
            have h63 := bZ_le (decide (0 ≤ d ∧ d ≤ (if c = 0 then 0 else 15)))
            refine g_if_eq X dX1_setPhases_63 (tgt := 70) (by decide) (by omega) (fun c63 => ?_) (fun c63 => ?_)
            · refine g_iconst X dX1_setPhases_70 ?_
              exact join_71.out 0 _ (by grind [bZ]) (lv_sub hl [0, 1, 2, 3, 4, 5, 6] rfl)
            · refine g_iconst X dX1_setPhases_66 ?_
              refine g_goto X dX1_setPhases_67 (tgt := 71) (by decide) ?_
              exact join_71.out 1 _ (by grind [bZ]) (lv_sub hl [0, 1, 2, 3, 4, 5, 6] rfl)
          refine g_iload X dX1_setPhases_49 hl 5 rfl ?_
          refine g_if_ne X dX1_setPhases_51 (tgt := 58) (by decide) (by omega) (fun c51 => ?_) (fun c51 => ?_)
          · refine g_bipush X dX1_setPhases_58 rfl ?_
            exact join_60.out 15 _ (by grind) (lv_sub hl [0, 1, 2, 3, 4, 5, 6] rfl)
          · refine g_iconst X dX1_setPhases_54 ?_
            refine g_goto X dX1_setPhases_55 (tgt := 60) (by decide) ?_
            exact join_60.out 0 _ (by grind) (lv_sub hl [0, 1, 2, 3, 4, 5, 6] rfl)
      refine g_iload_n X dX1_setPhases_30 rfl hl 4 rfl ?_
      refine g_if_ne X dX1_setPhases_31 (tgt := 38) (by decide) (by omega) (fun c31 => ?_) (fun c31 => ?_)
      · refine g_bipush X dX1_setPhases_38 rfl ?_
        exact join_40.out 15 _ (by grind) (lv_sub hl [0, 1, 2, 3, 4, 5, 6] rfl)
      · refine g_iconst X dX1_setPhases_34 ?_
        refine g_goto X dX1_setPhases_35 (tgt := 40) (by decide) ?_
        exact join_40.out 0 _ (by grind) (lv_sub hl [0, 1, 2, 3, 4, 5, 6] rfl)
