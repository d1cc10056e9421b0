/-! the reference: what is read alone -/
set_option maxHeartbeats 4000000 in
theorem m_thrown (l : Launch) (E : EP) (am : Nat → Nat) (M : MS) (H : Heap) (hM : MP E am M H) : gP l E yX3_thrown cX3_thrown 1 .int 0 H [.ref (am 0)] (M 0 0) := by
  refine g_met (plainFor_of_name (by decide)) (Nat.le_of_ble_eq_true rfl) (fun P_ e_ s M_ bl mt_ c_ ls X _ hk hh hl => ?_)
  subst hh
  have X : gX P_ s M_ mt_ c_ cX3_thrown 1 ([.ref (am 0)] : List Value).toArray RX3 (some .int) := X
  have hl : lv_has ls 1 [(0, .ref (am 0))] := hl
  refine g_aload_n X dX3_thrown_0 rfl hl 0 rfl ?_
  refine g_get X hk (v := .int (iI (M 0 0))) in_X3 rfl (MP.O hM) 0 (by decide) q601 (rfl) dX3_thrown_1 ?_
  exact g_iretP X (rfl) dX3_thrown_4
set_option maxHeartbeats 4000000 in
theorem m_isJunction (l : Launch) (E : EP) (am : Nat → Nat) (S : GS) (M : MS) (H : Heap) (hM : MP E am M H) (hI : gI S) (hR : MR S M) (v : Int) (hv : -2147483648 ≤ v ∧ v ≤ 2147483647) : gP l E yX3_isJunction cX3_isJunction 2 .boolean 1 H [.ref (am 0), .int (iI v)] (bZ (decide (0 ≤ v ∧ v ≤ (gN S : Int) - 1))) := by
  refine g_met (plainFor_of_name (by decide)) (Nat.le_of_ble_eq_true rfl) (fun P_ e_ s M_ bl mt_ c_ ls X _ hk hh hl => ?_)
  subst hh
  have X : gX P_ s M_ mt_ c_ cX3_isJunction 2 ([.ref (am 0), .int (iI v)] : List Value).toArray RX3 (some .boolean) := X
  have hl : lv_has ls 2 [(0, .ref (am 0)), (1, .int (iI v))] := hl
  have hn5 := hI.1.1
  refine g_iload_n X dX3_isJunction_0 rfl hl 1 rfl ?_
  refine g_iconst X dX3_isJunction_1 ?_
  refine g_aload_n X dX3_isJunction_2 rfl hl 0 rfl ?_
  refine g_get X hk (v := .int (iI (((gN S) : Nat) : Int))) in_X3 rfl (MP.O hM) 1 (by decide) q602 (sI (MR.n hR)) dX3_isJunction_3 ?_
  refine g_iconst X dX3_isJunction_6 ?_
  refine g_isub X dX3_isJunction_7 ?_
  refine g_pS X hk (As := [.int (iI v), .int (iI 0), .int (iI ((((gN S) : Nat) : Int) - 1))]) (rest := []) (m_in l E v 0 ((((gN S) : Nat) : Int) - 1) s.heap (by omega) (by omega) (by omega)) 3 (lw_S q691 q692 q48 q693) (by decide +kernel) ⟨⟨Nat.le_of_ble_eq_true rfl, Nat.le_of_ble_eq_true rfl⟩, Nat.le_of_ble_eq_true rfl, Nat.le_of_ble_eq_true rfl⟩ rfl rfl hl.1 (Nat.le_of_ble_eq_true rfl) dX3_isJunction_8 ?_
  exact g_zretP X (by first | exact bZ_le _ | omega) (rfl) dX3_isJunction_11
set_option maxHeartbeats 4000000 in
theorem m_isLink (l : Launch) (E : EP) (am : Nat → Nat) (S : GS) (M : MS) (H : Heap) (hM : MP E am M H) (hI : gI S) (hR : MR S M) (v : Int) (hv : -2147483648 ≤ v ∧ v ≤ 2147483647) : gP l E yX3_isLink cX3_isLink 2 .boolean 1 H [.ref (am 0), .int (iI v)] (bZ (decide (0 ≤ v ∧ v ≤ (gN S : Int) - 2))) := by
  refine g_met (plainFor_of_name (by decide)) (Nat.le_of_ble_eq_true rfl) (fun P_ e_ s M_ bl mt_ c_ ls X _ hk hh hl => ?_)
  subst hh
  have X : gX P_ s M_ mt_ c_ cX3_isLink 2 ([.ref (am 0), .int (iI v)] : List Value).toArray RX3 (some .boolean) := X
  have hl : lv_has ls 2 [(0, .ref (am 0)), (1, .int (iI v))] := hl
  have hn5 := hI.1.1
  refine g_iload_n X dX3_isLink_0 rfl hl 1 rfl ?_
  refine g_iconst X dX3_isLink_1 ?_
  refine g_aload_n X dX3_isLink_2 rfl hl 0 rfl ?_
  refine g_get X hk (v := .int (iI (((gN S) : Nat) : Int))) in_X3 rfl (MP.O hM) 1 (by decide) q602 (sI (MR.n hR)) dX3_isLink_3 ?_
  refine g_iconst X dX3_isLink_6 ?_
  refine g_isub X dX3_isLink_7 ?_
  refine g_pS X hk (As := [.int (iI v), .int (iI 0), .int (iI ((((gN S) : Nat) : Int) - 2))]) (rest := []) (m_in l E v 0 ((((gN S) : Nat) : Int) - 2) s.heap (by omega) (by omega) (by omega)) 3 (lw_S q691 q692 q48 q693) (by decide +kernel) ⟨⟨Nat.le_of_ble_eq_true rfl, Nat.le_of_ble_eq_true rfl⟩, Nat.le_of_ble_eq_true rfl, Nat.le_of_ble_eq_true rfl⟩ rfl rfl hl.1 (Nat.le_of_ble_eq_true rfl) dX3_isLink_8 ?_
  exact g_zretP X (by first | exact bZ_le _ | omega) (rfl) dX3_isLink_11
set_option maxHeartbeats 4000000 in
theorem m_isMovement (l : Launch) (E : EP) (v : Int) (H : Heap) (hv : -2147483648 ≤ v ∧ v ≤ 2147483647) : gP l E yX3_isMovement cX3_isMovement 1 .boolean 1 H [.int (iI v)] (bZ (decide (0 ≤ v ∧ v ≤ 3))) := by
  refine g_met (plainFor_of_name (by decide)) (Nat.le_of_ble_eq_true rfl) (fun P_ e_ s M_ bl mt_ c_ ls X _ hk hh hl => ?_)
  subst hh
  have X : gX P_ s M_ mt_ c_ cX3_isMovement 1 ([.int (iI v)] : List Value).toArray RX3 (some .boolean) := X
  have hl : lv_has ls 1 [(0, .int (iI v))] := hl
  refine g_iload_n X dX3_isMovement_0 rfl hl 0 rfl ?_
  refine g_iconst X dX3_isMovement_1 ?_
  refine g_iconst X dX3_isMovement_2 ?_
  refine g_pS X hk (As := [.int (iI v), .int (iI 0), .int (iI 3)]) (rest := []) (m_in l E v 0 3 s.heap (by omega) (by omega) (by omega)) 3 (lw_S q691 q692 q48 q693) (by decide +kernel) ⟨⟨Nat.le_of_ble_eq_true rfl, Nat.le_of_ble_eq_true rfl⟩, Nat.le_of_ble_eq_true rfl, Nat.le_of_ble_eq_true rfl⟩ rfl rfl hl.1 (Nat.le_of_ble_eq_true rfl) dX3_isMovement_3 ?_
  exact g_zretP X (by first | exact bZ_le _ | omega) (rfl) dX3_isMovement_6
set_option maxHeartbeats 4000000 in
theorem m_conflict (l : Launch) (E : EP) (v a b : Int) (H : Heap)  : gP l E yX3_conflict cX3_conflict 3 .int 0 H [.int (iI v), .int (iI a), .int (iI b)] (16 * v + 4 * a + b) := by
  refine g_met (plainFor_of_name (by decide)) (Nat.le_of_ble_eq_true rfl) (fun P_ e_ s M_ bl mt_ c_ ls X _ hk hh hl => ?_)
  subst hh
  have X : gX P_ s M_ mt_ c_ cX3_conflict 3 ([.int (iI v), .int (iI a), .int (iI b)] : List Value).toArray RX3 (some .int) := X
  have hl : lv_has ls 3 [(0, .int (iI v)), (1, .int (iI a)), (2, .int (iI b))] := hl
  refine g_bipush X dX3_conflict_0 rfl ?_
  refine g_iload_n X dX3_conflict_2 rfl hl 0 rfl ?_
  refine g_imul X dX3_conflict_3 ?_
  refine g_iconst X dX3_conflict_4 ?_
  refine g_iload_n X dX3_conflict_5 rfl hl 1 rfl ?_
  refine g_imul X dX3_conflict_6 ?_
  refine g_iadd X dX3_conflict_7 ?_
  refine g_iload_n X dX3_conflict_8 rfl hl 2 rfl ?_
  refine g_iadd X dX3_conflict_9 ?_
  exact g_iretP X (rfl) dX3_conflict_10
set_option maxHeartbeats 4000000 in
theorem m_areIn (l : Launch) (E : EP) (am : Nat → Nat) (S : GS) (M : MS) (H : Heap) (hM : MP E am M H) (hI : gI S) (hR : MR S M) (j : Nat) (hj : j < gN S) (v : Int) (a b : Nat) (ha : a < 4) (hb : b < 4) : gP l E yX3_areIn cX3_areIn 5 .boolean 1 H [.ref (am 0), .int (iI ((j : Nat) : Int)), .int (iI v), .int (iI ((a : Nat) : Int)), .int (iI ((b : Nat) : Int))] (bZ (hasB v (a : Int) && hasB v (b : Int) && decide (¬ gCf S j (4 * a + b) = -1))) := by
  refine g_met (plainFor_of_name (by decide)) (Nat.le_of_ble_eq_true rfl) (fun P_ e_ s M_ bl mt_ c_ ls X _ hk hh hl => ?_)
  subst hh
  have X : gX P_ s M_ mt_ c_ cX3_areIn 5 ([.ref (am 0), .int (iI ((j : Nat) : Int)), .int (iI v), .int (iI ((a : Nat) : Int)), .int (iI ((b : Nat) : Int))] : List Value).toArray RX3 (some .boolean) := X
  have hl : lv_has ls 5 [(0, .ref (am 0)), (1, .int (iI ((j : Nat) : Int))), (2, .int (iI v)), (3, .int (iI ((a : Nat) : Int))), (4, .int (iI ((b : Nat) : Int)))] := hl
  have hn5 := hI.1.1
  refine g_iload_n X dX3_areIn_0 rfl hl 2 rfl ?_
  refine g_iload_n X dX3_areIn_1 rfl hl 3 rfl ?_
  refine g_pS X hk (As := [.int (iI v), .int (iI ((a : Nat) : Int))]) (rest := []) (m_has l E v ((a : Nat) : Int) s.heap) 2 (lw_S q713 q714 q48 q715) (by decide +kernel) ⟨⟨Nat.le_of_ble_eq_true rfl, Nat.le_of_ble_eq_true rfl⟩, Nat.le_of_ble_eq_true rfl, Nat.le_of_ble_eq_true rfl⟩ rfl rfl hl.1 (Nat.le_of_ble_eq_true rfl) dX3_areIn_2 ?_
  have h5 := bZ_le (hasB v ((a : Nat) : Int))
  refine g_if_eq X dX3_areIn_5 (tgt := 37) (by decide) (by omega) (fun c5 => ?_) (fun c5 => ?_)
  · refine g_iconst X dX3_areIn_37 ?_
    exact g_zretP X (by first | exact bZ_le _ | omega) (by grind [bZ]) dX3_areIn_38
  · refine g_iload_n X dX3_areIn_8 rfl hl 2 rfl ?_
    refine g_iload X dX3_areIn_9 hl 4 rfl ?_
    refine g_pS X hk (As := [.int (iI v), .int (iI ((b : Nat) : Int))]) (rest := []) (m_has l E v ((b : Nat) : Int) s.heap) 2 (lw_S q713 q714 q48 q715) (by decide +kernel) ⟨⟨Nat.le_of_ble_eq_true rfl, Nat.le_of_ble_eq_true rfl⟩, Nat.le_of_ble_eq_true rfl, Nat.le_of_ble_eq_true rfl⟩ rfl rfl hl.1 (Nat.le_of_ble_eq_true rfl) dX3_areIn_11 ?_
    have h14 := bZ_le (hasB v ((b : Nat) : Int))
    refine g_if_eq X dX3_areIn_14 (tgt := 37) (by decide) (by omega) (fun c14 => ?_) (fun c14 => ?_)
    · refine g_iconst X dX3_areIn_37 ?_
      exact g_zretP X (by first | exact bZ_le _ | omega) (by grind [bZ]) dX3_areIn_38
    · refine g_aload_n X dX3_areIn_17 rfl hl 0 rfl ?_
      refine g_get X hk (v := .ref (am 4)) in_X3 rfl (MP.O hM) 4 (by decide) q605 (rfl) dX3_areIn_18 ?_
      refine g_iload_n X dX3_areIn_21 rfl hl 1 rfl ?_
      refine g_iload_n X dX3_areIn_22 rfl hl 3 rfl ?_
      refine g_iload X dX3_areIn_23 hl 4 rfl ?_
      refine g_pS X hk (As := [.int (iI ((j : Nat) : Int)), .int (iI ((a : Nat) : Int)), .int (iI ((b : Nat) : Int))]) (rest := [.ref (am 4)]) (m_conflict l E ((j : Nat) : Int) ((a : Nat) : Int) ((b : Nat) : Int) s.heap) 3 (lw_S q716 q717 q48 q718) (by decide +kernel) ⟨⟨Nat.le_of_ble_eq_true rfl, Nat.le_of_ble_eq_true rfl⟩, Nat.le_of_ble_eq_true rfl, Nat.le_of_ble_eq_true rfl⟩ rfl rfl hl.1 (Nat.le_of_ble_eq_true rfl) dX3_areIn_25 ?_
      refine g_ialdv X hk (j := (16 * j + (4 * a + b))) (n := 80) (f := (M 4)) (v := (gCf S j (4 * a + b))) (MP.I hM 4 rfl) (by omega) (by omega) (MR.cf hR hj (by omega)) dX3_areIn_28 ?_
      refine g_iconst X dX3_areIn_29 ?_
      have h30 := (hI.2.2 j hj).2.1 (4 * a + b) (by omega)
      refine g_icmp_eq X dX3_areIn_30 (tgt := 37) (by decide) (by omega) (fun c30 => ?_) (fun c30 => ?_)
      · refine g_iconst X dX3_areIn_37 ?_
        exact g_zretP X (by first | exact bZ_le _ | omega) (by grind [bZ]) dX3_areIn_38
      · refine g_iconst X dX3_areIn_33 ?_
        refine g_goto X dX3_areIn_34 (tgt := 38) (by decide) ?_
        exact g_zretP X (by first | exact bZ_le _ | omega) (by grind [bZ]) dX3_areIn_38
set_option maxHeartbeats 4000000 in
theorem m_isBad (l : Launch) (E : EP) (am : Nat → Nat) (S : GS) (M : MS) (H : Heap) (hM : MP E am M H) (hI : gI S) (hR : MR S M) (j : Nat) (hj : j < gN S) (v : Int) (hv : -2147483648 ≤ v ∧ v ≤ 2147483647) : gP l E yX3_isBad cX3_isBad 4 .boolean 2 H [.ref (am 0), .int (iI ((j : Nat) : Int)), .int (iI v)] (bZ (badK v (gCf S j) 16)) := by
  refine g_met (plainFor_of_name (by decide)) (Nat.le_of_ble_eq_true rfl) (fun P_ e_ s M_ bl mt_ c_ ls X _ hk hh hl => ?_)
  subst hh
  have X : gX P_ s M_ mt_ c_ cX3_isBad 4 ([.ref (am 0), .int (iI ((j : Nat) : Int)), .int (iI v)] : List Value).toArray RX3 (some .boolean) := X
  have hl : lv_has ls 4 [(0, .ref (am 0)), (1, .int (iI ((j : Nat) : Int))), (2, .int (iI v))] := hl
  have hn5 := hI.1.1
  have hArea : ∀ k : Nat, k < 16 → gP l E yX3_areIn cX3_areIn 5 .boolean 1 s.heap [.ref (am 0), .int (iI ((j : Nat) : Int)), .int (iI v), .int (iI ((k : Int) / 4)), .int (iI ((k : Int) % 4))] (bZ (hasB v ((k : Int) / 4) && hasB v ((k : Int) % 4) && decide (¬ gCf S j k = -1))) := by
    intro k hk16
    have h := m_areIn l E am S M s.heap hM hI hR j hj v (k / 4) (k % 4) (by omega) (by omega)
    rw [show 4 * (k / 4) + k % 4 = k by omega] at h
    exact h
  refine g_iconst X dX3_isBad_0 ?_
  refine g_istore_n (lv' := [(3, .int (iI 0)), (0, .ref (am 0)), (1, .int (iI ((j : Nat) : Int))), (2, .int (iI v))]) X dX3_isBad_1 rfl hl (by decide) rfl (fun ls hl => ?_)
  have loop_2 : gHide (∀ (n_ : Nat) (k : Nat) (v3 : Int), 17 ≤ k + n_ → v3 = ((k : Nat) : Int) → (k ≤ 16) → (badK v (gCf S j) k = false) → ∀ (ls : Array Slot), lv_has ls 4 [(3, .int (iI v3)), (0, .ref (am 0)), (1, .int (iI ((j : Nat) : Int))), (2, .int (iI v))] → W P_ l e_ (gR 2 0 0) s M_ ([.ref (am 0), .int (iI ((j : Nat) : Int)), .int (iI v)] : List Value).toArray bl mt_ c_ s.heap [] 0 0 (MQ bl (QcRead (iI (bZ (badK v (gCf S j) 16)))) ([.ref (am 0), .int (iI ((j : Nat) : Int)), .int (iI v)] : List Value).toArray s 0 0 (fun _ => False)) (F0 M_ 2 ls [])) := by
    intro n_
    induction n_ with
    | zero => intro k v3 hb_ e_v3 hkb hA ls hl; exact absurd hb_ (by omega)
    | succ n_ ih_2 =>
      replace ih_2 := gHide.mk ih_2
      intro k v3 hb_ e_v3 hkb hA ls hl
      subst e_v3
      have hl : lv_has ls 4 [(3, .int (iI ((k : Nat) : Int))), (0, .ref (am 0)), (1, .int (iI ((j : Nat) : Int))), (2, .int (iI v))] := hl
      refine g_iload_n X dX3_isBad_2 rfl hl 0 rfl ?_
      refine g_bipush X dX3_isBad_3 rfl ?_
      refine g_icmp_ge X dX3_isBad_5 (tgt := 31) (by decide) (by omega) (fun c5 => ?_) (fun c5 => ?_)
      · refine g_iconst X dX3_isBad_31 ?_
        exact g_zretP X (by first | exact bZ_le _ | omega) (by rw [show (16 : Nat) = k by omega, hA]; rfl) dX3_isBad_32
      · refine g_aload_n X dX3_isBad_8 rfl hl 1 rfl ?_
        refine g_iload_n X dX3_isBad_9 rfl hl 2 rfl ?_
        refine g_iload_n X dX3_isBad_10 rfl hl 3 rfl ?_
        refine g_iload_n X dX3_isBad_11 rfl hl 0 rfl ?_
        refine g_iconst X dX3_isBad_12 ?_
        refine g_idivN X dX3_isBad_13 (by omega) ?_
        refine g_iload_n X dX3_isBad_14 rfl hl 0 rfl ?_
        refine g_iconst X dX3_isBad_15 ?_
        refine g_iremN X dX3_isBad_16 (by omega) ?_
        refine g_pV X hk (As := [.int (iI ((j : Nat) : Int)), .int (iI v), .int (iI (((k : Nat) : Int) / 4)), .int (iI (((k : Nat) : Int) % 4))]) (rest := []) rfl (MP.O hM) ((show gP l E yX3_areIn cX3_areIn 5 .boolean 1 s.heap _ (bZ (hasB v ((k : Int) / 4) && hasB v ((k : Int) % 4) && decide (¬ gCf S j k = -1))) from hArea k (by omega))) 4 (lw_V q727 q729 qs19 q48 q730) (by decide +kernel) ⟨⟨Nat.le_of_ble_eq_true rfl, Nat.le_of_ble_eq_true rfl⟩, Nat.le_of_ble_eq_true rfl, Nat.le_of_ble_eq_true rfl⟩ rfl rfl hl.1 (Nat.le_of_ble_eq_true rfl) dX3_isBad_17 ?_
        have h20 := bZ_le (hasB v ((k : Int) / 4) && hasB v ((k : Int) % 4) && decide (¬ gCf S j k = -1))
        refine g_if_eq X dX3_isBad_20 (tgt := 25) (by decide) (by omega) (fun c20 => ?_) (fun c20 => ?_)
        · refine g_iinc (lv' := [(3, .int (iI (((k : Nat) : Int) + 1))), (0, .ref (am 0)), (1, .int (iI ((j : Nat) : Int))), (2, .int (iI v))]) X dX3_isBad_25 hl (k := 0) rfl (by decide) rfl (fun ls hl => ?_)
          refine g_goto X dX3_isBad_28 (tgt := 2) (by decide) ?_
          exact ih_2.out (k + 1) (((k : Nat) : Int) + 1) (by omega) (by omega) (by omega) (by grind [badK, bZ]) _ (lv_sub hl [0, 1, 2, 3] rfl)
        · have hB : badK v (gCf S j) (k + 1) = true := by grind [badK, bZ]
          have hB2 : ∀ i, badK v (gCf S j) (k + 1 + i) = true := by
            intro i
            induction i with
            | zero => exact hB
            | succ i ih => show (badK v (gCf S j) (k + 1 + i) || _) = true; rw [ih]; rfl
          refine g_iconst X dX3_isBad_23 ?_
          exact g_zretP X (by first | exact bZ_le _ | omega) (by rw [show (16 : Nat) = k + 1 + (15 - k) by omega, hB2]; rfl) dX3_isBad_24
  exact loop_2.out 17 0 0 (by omega) (rfl) (by omega) rfl _ (lv_sub hl [0, 1, 2, 3] rfl)
set_option maxHeartbeats 4000000 in
theorem m_clearingOf (l : Launch) (E : EP) (am : Nat → Nat) (S : GS) (M : MS) (H : Heap) (hM : MP E am M H) (hI : gI S) (hR : MR S M) (j : Nat) (hj : j < gN S) (p : Nat) (hp : p < gNp S j) : gP l E yX3_clearingOf cX3_clearingOf 8 .int 1 H [.ref (am 0), .int (iI ((j : Nat) : Int)), .int (iI ((p : Nat) : Int))] (clr S j p) := by
  refine g_met (plainFor_of_name (by decide)) (Nat.le_of_ble_eq_true rfl) (fun P_ e_ s M_ bl mt_ c_ ls X _ hk hh hl => ?_)
  subst hh
  have X : gX P_ s M_ mt_ c_ cX3_clearingOf 8 ([.ref (am 0), .int (iI ((j : Nat) : Int)), .int (iI ((p : Nat) : Int))] : List Value).toArray RX3 (some .int) := X
  have hl : lv_has ls 8 [(0, .ref (am 0)), (1, .int (iI ((j : Nat) : Int))), (2, .int (iI ((p : Nat) : Int)))] := hl
  have hn5 := hI.1.1
  have hnp := (hI.2.2 j hj).1
  have hpm : (p + 1) % gNp S j < gNp S j := Nat.mod_lt _ (by omega)
  refine g_aload_n X dX3_clearingOf_0 rfl hl 0 rfl ?_
  refine g_get X hk (v := .ref (am 5)) in_X3 rfl (MP.O hM) 5 (by decide) q606 (rfl) dX3_clearingOf_1 ?_
  refine g_iconst X dX3_clearingOf_4 ?_
  refine g_iload_n X dX3_clearingOf_5 rfl hl 1 rfl ?_
  refine g_imul X dX3_clearingOf_6 ?_
  refine g_iload_n X dX3_clearingOf_7 rfl hl 2 rfl ?_
  refine g_iadd X dX3_clearingOf_8 ?_
  refine g_ialdv X hk (j := ((4 * j) + p)) (n := 20) (f := (M 5)) (v := (gPh S j p)) (MP.I hM 5 rfl) (by omega) (by omega) (MR.ph hR hj (by omega)) dX3_clearingOf_9 ?_
  refine g_istore_n (lv' := [(3, .int (iI (gPh S j p))), (0, .ref (am 0)), (1, .int (iI ((j : Nat) : Int))), (2, .int (iI ((p : Nat) : Int)))]) X dX3_clearingOf_10 rfl hl (by decide) rfl (fun ls hl => ?_)
  refine g_aload_n X dX3_clearingOf_11 rfl hl 1 rfl ?_
  refine g_get X hk (v := .ref (am 5)) in_X3 rfl (MP.O hM) 5 (by decide) q606 (rfl) dX3_clearingOf_12 ?_
  refine g_iconst X dX3_clearingOf_15 ?_
  refine g_iload_n X dX3_clearingOf_16 rfl hl 2 rfl ?_
  refine g_imul X dX3_clearingOf_17 ?_
  refine g_iload_n X dX3_clearingOf_18 rfl hl 3 rfl ?_
  refine g_iconst X dX3_clearingOf_19 ?_
  refine g_iadd X dX3_clearingOf_20 ?_
  refine g_aload_n X dX3_clearingOf_21 rfl hl 1 rfl ?_
  refine g_get X hk (v := .ref (am 6)) in_X3 rfl (MP.O hM) 6 (by decide) q607 (rfl) dX3_clearingOf_22 ?_
  refine g_iload_n X dX3_clearingOf_25 rfl hl 2 rfl ?_
  refine g_ialdv X hk (j := j) (n := 5) (f := (M 6)) (v := (((gNp S j) : Nat) : Int)) (MP.I hM 6 rfl) (rfl) (by omega) (MR.np hR hj) dX3_clearingOf_26 ?_
  refine g_iremN X dX3_clearingOf_27 (by omega) ?_
  refine g_iadd X dX3_clearingOf_28 ?_
  refine g_ialdv X hk (j := (4 * j) + ((p + 1) % gNp S j)) (n := 20) (f := (M 5)) (v := (gPh S j ((p + 1) % gNp S j))) (MP.I hM 5 rfl) (by push_cast; rfl) (by omega) (MR.ph hR hj (by omega)) dX3_clearingOf_29 ?_
  refine g_istore (lv' := [(4, .int (iI (gPh S j ((p + 1) % gNp S j)))), (3, .int (iI (gPh S j p))), (0, .ref (am 0)), (1, .int (iI ((j : Nat) : Int))), (2, .int (iI ((p : Nat) : Int)))]) X dX3_clearingOf_30 hl (by decide) rfl (fun ls hl => ?_)
  refine g_iconst X dX3_clearingOf_32 ?_
  refine g_istore (lv' := [(5, .int (iI 0)), (4, .int (iI (gPh S j ((p + 1) % gNp S j)))), (3, .int (iI (gPh S j p))), (0, .ref (am 0)), (1, .int (iI ((j : Nat) : Int))), (2, .int (iI ((p : Nat) : Int)))]) X dX3_clearingOf_33 hl (by decide) rfl (fun ls hl => ?_)
  refine g_iconst X dX3_clearingOf_35 ?_
  refine g_istore (lv' := [(6, .int (iI 0)), (5, .int (iI 0)), (4, .int (iI (gPh S j ((p + 1) % gNp S j)))), (3, .int (iI (gPh S j p))), (0, .ref (am 0)), (1, .int (iI ((j : Nat) : Int))), (2, .int (iI ((p : Nat) : Int)))]) X dX3_clearingOf_36 hl (by decide) rfl (fun ls hl => ?_)
  have loop_38 : gHide (∀ (n_ : Nat) (k : Nat) (v6 : Int) (v5 : Int), 17 ≤ k + n_ → v6 = ((k : Nat) : Int) → v5 = (clrK (gPh S j p) (gPh S j ((p + 1) % gNp S j)) (gCf S j) k) → (k ≤ 16) → ∀ (ls : Array Slot), lv_has ls 8 [(6, .int (iI v6)), (5, .int (iI v5)), (4, .int (iI (gPh S j ((p + 1) % gNp S j)))), (3, .int (iI (gPh S j p))), (0, .ref (am 0)), (1, .int (iI ((j : Nat) : Int))), (2, .int (iI ((p : Nat) : Int)))] → W P_ l e_ (gR 1 0 0) s M_ ([.ref (am 0), .int (iI ((j : Nat) : Int)), .int (iI ((p : Nat) : Int))] : List Value).toArray bl mt_ c_ s.heap [] 0 0 (MQ bl (QcRead (iI (clr S j p))) ([.ref (am 0), .int (iI ((j : Nat) : Int)), .int (iI ((p : Nat) : Int))] : List Value).toArray s 0 0 (fun _ => False)) (F0 M_ 38 ls [])) := by
    intro n_
    induction n_ with
    | zero => intro k v6 v5 hb_ e_v6 e_v5 hkb ls hl; exact absurd hb_ (by omega)
    | succ n_ ih_38 =>
      replace ih_38 := gHide.mk ih_38
      intro k v6 v5 hb_ e_v6 e_v5 hkb ls hl
      subst e_v6
      subst e_v5
      have hl : lv_has ls 8 [(6, .int (iI ((k : Nat) : Int))), (5, .int (iI (clrK (gPh S j p) (gPh S j ((p + 1) % gNp S j)) (gCf S j) k))), (4, .int (iI (gPh S j ((p + 1) % gNp S j)))), (3, .int (iI (gPh S j p))), (0, .ref (am 0)), (1, .int (iI ((j : Nat) : Int))), (2, .int (iI ((p : Nat) : Int)))] := hl
      have hz := clrK_b (s := gPh S j p) (t := gPh S j ((p + 1) % gNp S j)) (hI.2.2 j hj).2.1 k hkb
      refine g_iload X dX3_clearingOf_38 hl 0 rfl ?_
      refine g_bipush X dX3_clearingOf_40 rfl ?_
      refine g_icmp_ge X dX3_clearingOf_42 (tgt := 108) (by decide) (by omega) (fun c42 => ?_) (fun c42 => ?_)
      · refine g_iload X dX3_clearingOf_108 hl 1 rfl ?_
        exact g_iretP X (by rw [show k = 16 by omega]; rfl) dX3_clearingOf_110
      · refine g_iload_n X dX3_clearingOf_45 rfl hl 3 rfl ?_
        refine g_iload X dX3_clearingOf_46 hl 0 rfl ?_
        refine g_iconst X dX3_clearingOf_48 ?_
        refine g_idivN X dX3_clearingOf_49 (by omega) ?_
        refine g_pS X hk (As := [.int (iI (gPh S j p)), .int (iI (((k : Nat) : Int) / 4))]) (rest := []) (m_has l E (gPh S j p) (((k : Nat) : Int) / 4) s.heap) 2 (lw_S q713 q714 q48 q715) (by decide +kernel) ⟨⟨Nat.le_of_ble_eq_true rfl, Nat.le_of_ble_eq_true rfl⟩, Nat.le_of_ble_eq_true rfl, Nat.le_of_ble_eq_true rfl⟩ rfl rfl hl.1 (Nat.le_of_ble_eq_true rfl) dX3_clearingOf_50 ?_
        have h53 := bZ_le (hasB (gPh S j p) (((k : Nat) : Int) / 4))
        refine g_if_eq X dX3_clearingOf_53 (tgt := 83) (by decide) (by omega) (fun c53 => ?_) (fun c53 => ?_)
        · refine g_iconst X dX3_clearingOf_83 ?_
          refine g_istore (lv' := [(7, .int (iI 0)), (6, .int (iI ((k : Nat) : Int))), (5, .int (iI (clrK (gPh S j p) (gPh S j ((p + 1) % gNp S j)) (gCf S j) k))), (4, .int (iI (gPh S j ((p + 1) % gNp S j)))), (3, .int (iI (gPh S j p))), (0, .ref (am 0)), (1, .int (iI ((j : Nat) : Int))), (2, .int (iI ((p : Nat) : Int)))]) X dX3_clearingOf_84 hl (by decide) rfl (fun ls hl => ?_)
          refine g_iload X dX3_clearingOf_86 hl 0 rfl ?_
          refine g_iload X dX3_clearingOf_88 hl 2 rfl ?_
          refine g_icmp_le X dX3_clearingOf_90 (tgt := 98) (by decide) (by omega) (fun c90 => ?_) (fun c90 => ?_)
          · refine g_iload X dX3_clearingOf_98 hl 2 rfl ?_
            refine g_istore (lv' := [(5, .int (iI (clrK (gPh S j p) (gPh S j ((p + 1) % gNp S j)) (gCf S j) k))), (7, .int (iI 0)), (6, .int (iI ((k : Nat) : Int))), (4, .int (iI (gPh S j ((p + 1) % gNp S j)))), (3, .int (iI (gPh S j p))), (0, .ref (am 0)), (1, .int (iI ((j : Nat) : Int))), (2, .int (iI ((p : Nat) : Int)))]) X dX3_clearingOf_100 hl (by decide) rfl (fun ls hl => ?_)
            refine g_iinc (lv' := [(6, .int (iI (((k : Nat) : Int) + 1))), (5, .int (iI (clrK (gPh S j p) (gPh S j ((p + 1) % gNp S j)) (gCf S j) k))), (7, .int (iI 0)), (4, .int (iI (gPh S j ((p + 1) % gNp S j)))), (3, .int (iI (gPh S j p))), (0, .ref (am 0)), (1, .int (iI ((j : Nat) : Int))), (2, .int (iI ((p : Nat) : Int)))]) X dX3_clearingOf_102 hl (k := 2) rfl (by decide) rfl (fun ls hl => ?_)
            refine g_goto X dX3_clearingOf_105 (tgt := 38) (by decide) ?_
            exact ih_38.out (k + 1) (((k : Nat) : Int) + 1) (clrK (gPh S j p) (gPh S j ((p + 1) % gNp S j)) (gCf S j) k) (by omega) (by omega) (by grind [clrK, bZ]) (by omega) _ (lv_sub hl [0, 1, 3, 4, 5, 6, 7] rfl)
          · refine g_iload X dX3_clearingOf_93 hl 0 rfl ?_
            refine g_goto X dX3_clearingOf_95 (tgt := 100) (by decide) ?_
            refine g_istore (lv' := [(5, .int (iI 0)), (7, .int (iI 0)), (6, .int (iI ((k : Nat) : Int))), (4, .int (iI (gPh S j ((p + 1) % gNp S j)))), (3, .int (iI (gPh S j p))), (0, .ref (am 0)), (1, .int (iI ((j : Nat) : Int))), (2, .int (iI ((p : Nat) : Int)))]) X dX3_clearingOf_100 hl (by decide) rfl (fun ls hl => ?_)
            refine g_iinc (lv' := [(6, .int (iI (((k : Nat) : Int) + 1))), (5, .int (iI 0)), (7, .int (iI 0)), (4, .int (iI (gPh S j ((p + 1) % gNp S j)))), (3, .int (iI (gPh S j p))), (0, .ref (am 0)), (1, .int (iI ((j : Nat) : Int))), (2, .int (iI ((p : Nat) : Int)))]) X dX3_clearingOf_102 hl (k := 2) rfl (by decide) rfl (fun ls hl => ?_)
            refine g_goto X dX3_clearingOf_105 (tgt := 38) (by decide) ?_
            exact ih_38.out (k + 1) (((k : Nat) : Int) + 1) 0 (by omega) (by omega) (by grind [clrK, bZ]) (by omega) _ (lv_sub hl [0, 1, 3, 4, 5, 6, 7] rfl)
        · refine g_iload X dX3_clearingOf_56 hl 2 rfl ?_
          refine g_iload X dX3_clearingOf_58 hl 0 rfl ?_
          refine g_iconst X dX3_clearingOf_60 ?_
          refine g_iremN X dX3_clearingOf_61 (by omega) ?_
          refine g_pS X hk (As := [.int (iI (gPh S j ((p + 1) % gNp S j))), .int (iI (((k : Nat) : Int) % 4))]) (rest := []) (m_has l E (gPh S j ((p + 1) % gNp S j)) (((k : Nat) : Int) % 4) s.heap) 2 (lw_S q713 q714 q48 q715) (by decide +kernel) ⟨⟨Nat.le_of_ble_eq_true rfl, Nat.le_of_ble_eq_true rfl⟩, Nat.le_of_ble_eq_true rfl, Nat.le_of_ble_eq_true rfl⟩ rfl rfl hl.1 (Nat.le_of_ble_eq_true rfl) dX3_clearingOf_62 ?_
          have h65 := bZ_le (hasB (gPh S j ((p + 1) % gNp S j)) (((k : Nat) : Int) % 4))
          refine g_if_eq X dX3_clearingOf_65 (tgt := 83) (by decide) (by omega) (fun c65 => ?_) (fun c65 => ?_)
          · refine g_iconst X dX3_clearingOf_83 ?_
            refine g_istore (lv' := [(7, .int (iI 0)), (6, .int (iI ((k : Nat) : Int))), (5, .int (iI (clrK (gPh S j p) (gPh S j ((p + 1) % gNp S j)) (gCf S j) k))), (4, .int (iI (gPh S j ((p + 1) % gNp S j)))), (3, .int (iI (gPh S j p))), (0, .ref (am 0)), (1, .int (iI ((j : Nat) : Int))), (2, .int (iI ((p : Nat) : Int)))]) X dX3_clearingOf_84 hl (by decide) rfl (fun ls hl => ?_)
            refine g_iload X dX3_clearingOf_86 hl 0 rfl ?_
            refine g_iload X dX3_clearingOf_88 hl 2 rfl ?_
            refine g_icmp_le X dX3_clearingOf_90 (tgt := 98) (by decide) (by omega) (fun c90 => ?_) (fun c90 => ?_)
            · refine g_iload X dX3_clearingOf_98 hl 2 rfl ?_
              refine g_istore (lv' := [(5, .int (iI (clrK (gPh S j p) (gPh S j ((p + 1) % gNp S j)) (gCf S j) k))), (7, .int (iI 0)), (6, .int (iI ((k : Nat) : Int))), (4, .int (iI (gPh S j ((p + 1) % gNp S j)))), (3, .int (iI (gPh S j p))), (0, .ref (am 0)), (1, .int (iI ((j : Nat) : Int))), (2, .int (iI ((p : Nat) : Int)))]) X dX3_clearingOf_100 hl (by decide) rfl (fun ls hl => ?_)
              refine g_iinc (lv' := [(6, .int (iI (((k : Nat) : Int) + 1))), (5, .int (iI (clrK (gPh S j p) (gPh S j ((p + 1) % gNp S j)) (gCf S j) k))), (7, .int (iI 0)), (4, .int (iI (gPh S j ((p + 1) % gNp S j)))), (3, .int (iI (gPh S j p))), (0, .ref (am 0)), (1, .int (iI ((j : Nat) : Int))), (2, .int (iI ((p : Nat) : Int)))]) X dX3_clearingOf_102 hl (k := 2) rfl (by decide) rfl (fun ls hl => ?_)
              refine g_goto X dX3_clearingOf_105 (tgt := 38) (by decide) ?_
              exact ih_38.out (k + 1) (((k : Nat) : Int) + 1) (clrK (gPh S j p) (gPh S j ((p + 1) % gNp S j)) (gCf S j) k) (by omega) (by omega) (by grind [clrK, bZ]) (by omega) _ (lv_sub hl [0, 1, 3, 4, 5, 6, 7] rfl)
            · refine g_iload X dX3_clearingOf_93 hl 0 rfl ?_
              refine g_goto X dX3_clearingOf_95 (tgt := 100) (by decide) ?_
              refine g_istore (lv' := [(5, .int (iI 0)), (7, .int (iI 0)), (6, .int (iI ((k : Nat) : Int))), (4, .int (iI (gPh S j ((p + 1) % gNp S j)))), (3, .int (iI (gPh S j p))), (0, .ref (am 0)), (1, .int (iI ((j : Nat) : Int))), (2, .int (iI ((p : Nat) : Int)))]) X dX3_clearingOf_100 hl (by decide) rfl (fun ls hl => ?_)
              refine g_iinc (lv' := [(6, .int (iI (((k : Nat) : Int) + 1))), (5, .int (iI 0)), (7, .int (iI 0)), (4, .int (iI (gPh S j ((p + 1) % gNp S j)))), (3, .int (iI (gPh S j p))), (0, .ref (am 0)), (1, .int (iI ((j : Nat) : Int))), (2, .int (iI ((p : Nat) : Int)))]) X dX3_clearingOf_102 hl (k := 2) rfl (by decide) rfl (fun ls hl => ?_)
              refine g_goto X dX3_clearingOf_105 (tgt := 38) (by decide) ?_
              exact ih_38.out (k + 1) (((k : Nat) : Int) + 1) 0 (by omega) (by omega) (by grind [clrK, bZ]) (by omega) _ (lv_sub hl [0, 1, 3, 4, 5, 6, 7] rfl)
          · refine g_aload_n X dX3_clearingOf_68 rfl hl 4 rfl ?_
            refine g_get X hk (v := .ref (am 4)) in_X3 rfl (MP.O hM) 4 (by decide) q605 (rfl) dX3_clearingOf_69 ?_
            refine g_bipush X dX3_clearingOf_72 rfl ?_
            refine g_iload_n X dX3_clearingOf_74 rfl hl 5 rfl ?_
            refine g_imul X dX3_clearingOf_75 ?_
            refine g_iload X dX3_clearingOf_76 hl 0 rfl ?_
            refine g_iadd X dX3_clearingOf_78 ?_
            refine g_ialdv X hk (j := ((16 * j) + k)) (n := 80) (f := (M 4)) (v := (gCf S j k)) (MP.I hM 4 rfl) (by omega) (by omega) (MR.cf hR hj (by omega)) dX3_clearingOf_79 ?_
            have h80 := (hI.2.2 j hj).2.1 k (by omega)
            refine g_goto X dX3_clearingOf_80 (tgt := 84) (by decide) ?_
            refine g_istore (lv' := [(7, .int (iI (gCf S j k))), (6, .int (iI ((k : Nat) : Int))), (5, .int (iI (clrK (gPh S j p) (gPh S j ((p + 1) % gNp S j)) (gCf S j) k))), (4, .int (iI (gPh S j ((p + 1) % gNp S j)))), (3, .int (iI (gPh S j p))), (0, .ref (am 0)), (1, .int (iI ((j : Nat) : Int))), (2, .int (iI ((p : Nat) : Int)))]) X dX3_clearingOf_84 hl (by decide) rfl (fun ls hl => ?_)
            refine g_iload X dX3_clearingOf_86 hl 0 rfl ?_
            refine g_iload X dX3_clearingOf_88 hl 2 rfl ?_
            refine g_icmp_le X dX3_clearingOf_90 (tgt := 98) (by decide) (by omega) (fun c90 => ?_) (fun c90 => ?_)
            · refine g_iload X dX3_clearingOf_98 hl 2 rfl ?_
              refine g_istore (lv' := [(5, .int (iI (clrK (gPh S j p) (gPh S j ((p + 1) % gNp S j)) (gCf S j) k))), (7, .int (iI (gCf S j k))), (6, .int (iI ((k : Nat) : Int))), (4, .int (iI (gPh S j ((p + 1) % gNp S j)))), (3, .int (iI (gPh S j p))), (0, .ref (am 0)), (1, .int (iI ((j : Nat) : Int))), (2, .int (iI ((p : Nat) : Int)))]) X dX3_clearingOf_100 hl (by decide) rfl (fun ls hl => ?_)
              refine g_iinc (lv' := [(6, .int (iI (((k : Nat) : Int) + 1))), (5, .int (iI (clrK (gPh S j p) (gPh S j ((p + 1) % gNp S j)) (gCf S j) k))), (7, .int (iI (gCf S j k))), (4, .int (iI (gPh S j ((p + 1) % gNp S j)))), (3, .int (iI (gPh S j p))), (0, .ref (am 0)), (1, .int (iI ((j : Nat) : Int))), (2, .int (iI ((p : Nat) : Int)))]) X dX3_clearingOf_102 hl (k := 2) rfl (by decide) rfl (fun ls hl => ?_)
              refine g_goto X dX3_clearingOf_105 (tgt := 38) (by decide) ?_
              exact ih_38.out (k + 1) (((k : Nat) : Int) + 1) (clrK (gPh S j p) (gPh S j ((p + 1) % gNp S j)) (gCf S j) k) (by omega) (by omega) (by grind [clrK, bZ]) (by omega) _ (lv_sub hl [0, 1, 3, 4, 5, 6, 7] rfl)
            · refine g_iload X dX3_clearingOf_93 hl 0 rfl ?_
              refine g_goto X dX3_clearingOf_95 (tgt := 100) (by decide) ?_
              refine g_istore (lv' := [(5, .int (iI (gCf S j k))), (7, .int (iI (gCf S j k))), (6, .int (iI ((k : Nat) : Int))), (4, .int (iI (gPh S j ((p + 1) % gNp S j)))), (3, .int (iI (gPh S j p))), (0, .ref (am 0)), (1, .int (iI ((j : Nat) : Int))), (2, .int (iI ((p : Nat) : Int)))]) X dX3_clearingOf_100 hl (by decide) rfl (fun ls hl => ?_)
              refine g_iinc (lv' := [(6, .int (iI (((k : Nat) : Int) + 1))), (5, .int (iI (gCf S j k))), (7, .int (iI (gCf S j k))), (4, .int (iI (gPh S j ((p + 1) % gNp S j)))), (3, .int (iI (gPh S j p))), (0, .ref (am 0)), (1, .int (iI ((j : Nat) : Int))), (2, .int (iI ((p : Nat) : Int)))]) X dX3_clearingOf_102 hl (k := 2) rfl (by decide) rfl (fun ls hl => ?_)
              refine g_goto X dX3_clearingOf_105 (tgt := 38) (by decide) ?_
              exact ih_38.out (k + 1) (((k : Nat) : Int) + 1) (gCf S j k) (by omega) (by omega) (by grind [clrK, bZ]) (by omega) _ (lv_sub hl [0, 1, 3, 4, 5, 6, 7] rfl)
  exact loop_38.out 17 0 0 0 (by omega) (rfl) (rfl) (by omega) _ (lv_sub hl [0, 1, 2, 3, 4, 5, 6] rfl)
set_option maxHeartbeats 4000000 in
theorem m_leastOf (l : Launch) (E : EP) (am : Nat → Nat) (S : GS) (M : MS) (H : Heap) (hM : MP E am M H) (hI : gI S) (hR : MR S M) (j : Nat) (hj : j < gN S) (p : Nat) (hp : p < gNp S j) : gP l E yX3_leastOf cX3_leastOf 3 .int 1 H [.ref (am 0), .int (iI ((j : Nat) : Int)), .int (iI ((p : Nat) : Int))] (lst S j p) := by
  refine g_met (plainFor_of_name (by decide)) (Nat.le_of_ble_eq_true rfl) (fun P_ e_ s M_ bl mt_ c_ ls X _ hk hh hl => ?_)
  subst hh
  have X : gX P_ s M_ mt_ c_ cX3_leastOf 3 ([.ref (am 0), .int (iI ((j : Nat) : Int)), .int (iI ((p : Nat) : Int))] : List Value).toArray RX3 (some .int) := X
  have hl : lv_has ls 3 [(0, .ref (am 0)), (1, .int (iI ((j : Nat) : Int))), (2, .int (iI ((p : Nat) : Int)))] := hl
  have hn5 := hI.1.1
  have hnp := (hI.2.2 j hj).1
  refine g_aload_n X dX3_leastOf_0 rfl hl 0 rfl ?_
  refine g_get X hk (v := .ref (am 5)) in_X3 rfl (MP.O hM) 5 (by decide) q606 (rfl) dX3_leastOf_1 ?_
  refine g_iconst X dX3_leastOf_4 ?_
  refine g_iload_n X dX3_leastOf_5 rfl hl 1 rfl ?_
  refine g_imul X dX3_leastOf_6 ?_
  refine g_iload_n X dX3_leastOf_7 rfl hl 2 rfl ?_
  refine g_iadd X dX3_leastOf_8 ?_
  refine g_ialdv X hk (j := ((4 * j) + p)) (n := 20) (f := (M 5)) (v := (gPh S j p)) (MP.I hM 5 rfl) (by omega) (by omega) (MR.ph hR hj (by omega)) dX3_leastOf_9 ?_
  refine g_iconst X dX3_leastOf_10 ?_
  refine g_pS X hk (As := [.int (iI (gPh S j p)), .int (iI 3)]) (rest := []) (m_has l E (gPh S j p) 3 s.heap) 2 (lw_S q713 q714 q48 q715) (by decide +kernel) ⟨⟨Nat.le_of_ble_eq_true rfl, Nat.le_of_ble_eq_true rfl⟩, Nat.le_of_ble_eq_true rfl, Nat.le_of_ble_eq_true rfl⟩ rfl rfl hl.1 (Nat.le_of_ble_eq_true rfl) dX3_leastOf_11 ?_
  have h14 := bZ_le (hasB (gPh S j p) 3)
  refine g_if_eq X dX3_leastOf_14 (tgt := 22) (by decide) (by omega) (fun c14 => ?_) (fun c14 => ?_)
  · refine g_iconst X dX3_leastOf_22 ?_
    exact g_iretP X (by unfold lst; grind [bZ]) dX3_leastOf_23
  · refine g_bipush X dX3_leastOf_17 rfl ?_
    refine g_goto X dX3_leastOf_19 (tgt := 23) (by decide) ?_
    exact g_iretP X (by unfold lst; grind [bZ]) dX3_leastOf_23
set_option maxHeartbeats 4000000 in
theorem m_weight (l : Launch) (E : EP) (am : Nat → Nat) (S : GS) (M : MS) (H : Heap) (hM : MP E am M H) (hI : gI S) (hR : MR S M) (j : Nat) (hj : j < gN S) (p : Nat) (hp : p < gNp S j) : gP l E yX3_weight cX3_weight 6 .int 1 H [.ref (am 0), .int (iI ((j : Nat) : Int)), .int (iI ((p : Nat) : Int))] (wgt S j p) := by
  refine g_met (plainFor_of_name (by decide)) (Nat.le_of_ble_eq_true rfl) (fun P_ e_ s M_ bl mt_ c_ ls X _ hk hh hl => ?_)
  subst hh
  have X : gX P_ s M_ mt_ c_ cX3_weight 6 ([.ref (am 0), .int (iI ((j : Nat) : Int)), .int (iI ((p : Nat) : Int))] : List Value).toArray RX3 (some .int) := X
  have hl : lv_has ls 6 [(0, .ref (am 0)), (1, .int (iI ((j : Nat) : Int))), (2, .int (iI ((p : Nat) : Int)))] := hl
  have hn5 := hI.1.1
  have hnp := (hI.2.2 j hj).1
  refine g_iconst X dX3_weight_0 ?_
  refine g_istore_n (lv' := [(3, .int (iI 0)), (0, .ref (am 0)), (1, .int (iI ((j : Nat) : Int))), (2, .int (iI ((p : Nat) : Int)))]) X dX3_weight_1 rfl hl (by decide) rfl (fun ls hl => ?_)
  refine g_iconst X dX3_weight_2 ?_
  refine g_istore (lv' := [(4, .int (iI 0)), (3, .int (iI 0)), (0, .ref (am 0)), (1, .int (iI ((j : Nat) : Int))), (2, .int (iI ((p : Nat) : Int)))]) X dX3_weight_3 hl (by decide) rfl (fun ls hl => ?_)
  have loop_5 : gHide (∀ (n_ : Nat) (k : Nat) (v4 : Int) (v3 : Int), 5 ≤ k + n_ → v4 = ((k : Nat) : Int) → v3 = (wgtK (gPh S j p) (gFl S j) k) → (k ≤ 4) → ∀ (ls : Array Slot), lv_has ls 6 [(4, .int (iI v4)), (3, .int (iI v3)), (0, .ref (am 0)), (1, .int (iI ((j : Nat) : Int))), (2, .int (iI ((p : Nat) : Int)))] → W P_ l e_ (gR 1 0 0) s M_ ([.ref (am 0), .int (iI ((j : Nat) : Int)), .int (iI ((p : Nat) : Int))] : List Value).toArray bl mt_ c_ s.heap [] 0 0 (MQ bl (QcRead (iI (wgt S j p))) ([.ref (am 0), .int (iI ((j : Nat) : Int)), .int (iI ((p : Nat) : Int))] : List Value).toArray s 0 0 (fun _ => False)) (F0 M_ 5 ls [])) := by
    intro n_
    induction n_ with
    | zero => intro k v4 v3 hb_ e_v4 e_v3 hkb ls hl; exact absurd hb_ (by omega)
    | succ n_ ih_5 =>
      replace ih_5 := gHide.mk ih_5
      intro k v4 v3 hb_ e_v4 e_v3 hkb ls hl
      subst e_v4
      subst e_v3
      have hl : lv_has ls 6 [(4, .int (iI ((k : Nat) : Int))), (3, .int (iI (wgtK (gPh S j p) (gFl S j) k))), (0, .ref (am 0)), (1, .int (iI ((j : Nat) : Int))), (2, .int (iI ((p : Nat) : Int)))] := hl
      have hz := wgtK_b (s := gPh S j p) (hI.2.2 j hj).2.2.2.1 k hkb
      refine g_iload X dX3_weight_5 hl 0 rfl ?_
      refine g_iconst X dX3_weight_7 ?_
      refine g_icmp_ge X dX3_weight_8 (tgt := 65) (by decide) (by omega) (fun c8 => ?_) (fun c8 => ?_)
      · refine g_iload_n X dX3_weight_65 rfl hl 1 rfl ?_
        exact g_iretP X (by rw [show k = 4 by omega]; rfl) dX3_weight_66
      · refine g_aload_n X dX3_weight_11 rfl hl 2 rfl ?_
        refine g_get X hk (v := .ref (am 5)) in_X3 rfl (MP.O hM) 5 (by decide) q606 (rfl) dX3_weight_12 ?_
        refine g_iconst X dX3_weight_15 ?_
        refine g_iload_n X dX3_weight_16 rfl hl 3 rfl ?_
        refine g_imul X dX3_weight_17 ?_
        refine g_iload_n X dX3_weight_18 rfl hl 4 rfl ?_
        refine g_iadd X dX3_weight_19 ?_
        refine g_ialdv X hk (j := ((4 * j) + p)) (n := 20) (f := (M 5)) (v := (gPh S j p)) (MP.I hM 5 rfl) (by omega) (by omega) (MR.ph hR hj (by omega)) dX3_weight_20 ?_
        refine g_iload X dX3_weight_21 hl 0 rfl ?_
        refine g_pS X hk (As := [.int (iI (gPh S j p)), .int (iI ((k : Nat) : Int))]) (rest := []) (m_has l E (gPh S j p) ((k : Nat) : Int) s.heap) 2 (lw_S q713 q714 q48 q715) (by decide +kernel) ⟨⟨Nat.le_of_ble_eq_true rfl, Nat.le_of_ble_eq_true rfl⟩, Nat.le_of_ble_eq_true rfl, Nat.le_of_ble_eq_true rfl⟩ rfl rfl hl.1 (Nat.le_of_ble_eq_true rfl) dX3_weight_23 ?_
        have h26 := bZ_le (hasB (gPh S j p) ((k : Nat) : Int))
        refine g_if_eq X dX3_weight_26 (tgt := 43) (by decide) (by omega) (fun c26 => ?_) (fun c26 => ?_)
        · refine g_iconst X dX3_weight_43 ?_
          refine g_istore (lv' := [(5, .int (iI 0)), (4, .int (iI ((k : Nat) : Int))), (3, .int (iI (wgtK (gPh S j p) (gFl S j) k))), (0, .ref (am 0)), (1, .int (iI ((j : Nat) : Int))), (2, .int (iI ((p : Nat) : Int)))]) X dX3_weight_44 hl (by decide) rfl (fun ls hl => ?_)
          refine g_iload X dX3_weight_46 hl 0 rfl ?_
          refine g_iload_n X dX3_weight_48 rfl hl 2 rfl ?_
          refine g_icmp_le X dX3_weight_49 (tgt := 57) (by decide) (by omega) (fun c49 => ?_) (fun c49 => ?_)
          · refine g_iload_n X dX3_weight_57 rfl hl 2 rfl ?_
            refine g_istore_n (lv' := [(3, .int (iI (wgtK (gPh S j p) (gFl S j) k))), (5, .int (iI 0)), (4, .int (iI ((k : Nat) : Int))), (0, .ref (am 0)), (1, .int (iI ((j : Nat) : Int))), (2, .int (iI ((p : Nat) : Int)))]) X dX3_weight_58 rfl hl (by decide) rfl (fun ls hl => ?_)
            refine g_iinc (lv' := [(4, .int (iI (((k : Nat) : Int) + 1))), (3, .int (iI (wgtK (gPh S j p) (gFl S j) k))), (5, .int (iI 0)), (0, .ref (am 0)), (1, .int (iI ((j : Nat) : Int))), (2, .int (iI ((p : Nat) : Int)))]) X dX3_weight_59 hl (k := 2) rfl (by decide) rfl (fun ls hl => ?_)
            refine g_goto X dX3_weight_62 (tgt := 5) (by decide) ?_
            exact ih_5.out (k + 1) (((k : Nat) : Int) + 1) (wgtK (gPh S j p) (gFl S j) k) (by omega) (by omega) (by grind [wgtK, bZ]) (by omega) _ (lv_sub hl [0, 1, 3, 4, 5] rfl)
          · refine g_iload X dX3_weight_52 hl 0 rfl ?_
            refine g_goto X dX3_weight_54 (tgt := 58) (by decide) ?_
            refine g_istore_n (lv' := [(3, .int (iI 0)), (5, .int (iI 0)), (4, .int (iI ((k : Nat) : Int))), (0, .ref (am 0)), (1, .int (iI ((j : Nat) : Int))), (2, .int (iI ((p : Nat) : Int)))]) X dX3_weight_58 rfl hl (by decide) rfl (fun ls hl => ?_)
            refine g_iinc (lv' := [(4, .int (iI (((k : Nat) : Int) + 1))), (3, .int (iI 0)), (5, .int (iI 0)), (0, .ref (am 0)), (1, .int (iI ((j : Nat) : Int))), (2, .int (iI ((p : Nat) : Int)))]) X dX3_weight_59 hl (k := 2) rfl (by decide) rfl (fun ls hl => ?_)
            refine g_goto X dX3_weight_62 (tgt := 5) (by decide) ?_
            exact ih_5.out (k + 1) (((k : Nat) : Int) + 1) 0 (by omega) (by omega) (by grind [wgtK, bZ]) (by omega) _ (lv_sub hl [0, 1, 3, 4, 5] rfl)
        · refine g_aload_n X dX3_weight_29 rfl hl 2 rfl ?_
          refine g_get X hk (v := .ref (am 7)) in_X3 rfl (MP.O hM) 7 (by decide) q608 (rfl) dX3_weight_30 ?_
          refine g_iconst X dX3_weight_33 ?_
          refine g_iload_n X dX3_weight_34 rfl hl 3 rfl ?_
          refine g_imul X dX3_weight_35 ?_
          refine g_iload X dX3_weight_36 hl 0 rfl ?_
          refine g_iadd X dX3_weight_38 ?_
          refine g_ialdv X hk (j := ((4 * j) + k)) (n := 20) (f := (M 7)) (v := (gFl S j k)) (MP.I hM 7 rfl) (by omega) (by omega) (MR.fl hR hj (by omega)) dX3_weight_39 ?_
          have h40 := (hI.2.2 j hj).2.2.2.1 k (by omega)
          refine g_goto X dX3_weight_40 (tgt := 44) (by decide) ?_
          refine g_istore (lv' := [(5, .int (iI (gFl S j k))), (4, .int (iI ((k : Nat) : Int))), (3, .int (iI (wgtK (gPh S j p) (gFl S j) k))), (0, .ref (am 0)), (1, .int (iI ((j : Nat) : Int))), (2, .int (iI ((p : Nat) : Int)))]) X dX3_weight_44 hl (by decide) rfl (fun ls hl => ?_)
          refine g_iload X dX3_weight_46 hl 0 rfl ?_
          refine g_iload_n X dX3_weight_48 rfl hl 2 rfl ?_
          refine g_icmp_le X dX3_weight_49 (tgt := 57) (by decide) (by omega) (fun c49 => ?_) (fun c49 => ?_)
          · refine g_iload_n X dX3_weight_57 rfl hl 2 rfl ?_
            refine g_istore_n (lv' := [(3, .int (iI (wgtK (gPh S j p) (gFl S j) k))), (5, .int (iI (gFl S j k))), (4, .int (iI ((k : Nat) : Int))), (0, .ref (am 0)), (1, .int (iI ((j : Nat) : Int))), (2, .int (iI ((p : Nat) : Int)))]) X dX3_weight_58 rfl hl (by decide) rfl (fun ls hl => ?_)
            refine g_iinc (lv' := [(4, .int (iI (((k : Nat) : Int) + 1))), (3, .int (iI (wgtK (gPh S j p) (gFl S j) k))), (5, .int (iI (gFl S j k))), (0, .ref (am 0)), (1, .int (iI ((j : Nat) : Int))), (2, .int (iI ((p : Nat) : Int)))]) X dX3_weight_59 hl (k := 2) rfl (by decide) rfl (fun ls hl => ?_)
            refine g_goto X dX3_weight_62 (tgt := 5) (by decide) ?_
            exact ih_5.out (k + 1) (((k : Nat) : Int) + 1) (wgtK (gPh S j p) (gFl S j) k) (by omega) (by omega) (by grind [wgtK, bZ]) (by omega) _ (lv_sub hl [0, 1, 3, 4, 5] rfl)
          · refine g_iload X dX3_weight_52 hl 0 rfl ?_
            refine g_goto X dX3_weight_54 (tgt := 58) (by decide) ?_
            refine g_istore_n (lv' := [(3, .int (iI (gFl S j k))), (5, .int (iI (gFl S j k))), (4, .int (iI ((k : Nat) : Int))), (0, .ref (am 0)), (1, .int (iI ((j : Nat) : Int))), (2, .int (iI ((p : Nat) : Int)))]) X dX3_weight_58 rfl hl (by decide) rfl (fun ls hl => ?_)
            refine g_iinc (lv' := [(4, .int (iI (((k : Nat) : Int) + 1))), (3, .int (iI (gFl S j k))), (5, .int (iI (gFl S j k))), (0, .ref (am 0)), (1, .int (iI ((j : Nat) : Int))), (2, .int (iI ((p : Nat) : Int)))]) X dX3_weight_59 hl (k := 2) rfl (by decide) rfl (fun ls hl => ?_)
            refine g_goto X dX3_weight_62 (tgt := 5) (by decide) ?_
            exact ih_5.out (k + 1) (((k : Nat) : Int) + 1) (gFl S j k) (by omega) (by omega) (by grind [wgtK, bZ]) (by omega) _ (lv_sub hl [0, 1, 3, 4, 5] rfl)
  exact loop_5.out 5 0 0 0 (by omega) (rfl) (rfl) (by omega) _ (lv_sub hl [0, 1, 2, 3, 4] rfl)
set_option maxHeartbeats 4000000 in
theorem m_secondOf (l : Launch) (E : EP) (am : Nat → Nat) (S : GS) (M : MS) (H : Heap) (hM : MP E am M H) (hI : gI S) (hR : MR S M) (j : Nat) (hj : j < gN S) (t : Int) (ht : -1000000 ≤ t ∧ t ≤ 1000000) : gP l E yX3_secondOf cX3_secondOf 3 .int 0 H [.ref (am 0), .int (iI ((j : Nat) : Int)), .int (iI t)] ((t - gOff S j) % gCyc S) := by
  refine g_met (plainFor_of_name (by decide)) (Nat.le_of_ble_eq_true rfl) (fun P_ e_ s M_ bl mt_ c_ ls X _ hk hh hl => ?_)
  subst hh
  have X : gX P_ s M_ mt_ c_ cX3_secondOf 3 ([.ref (am 0), .int (iI ((j : Nat) : Int)), .int (iI t)] : List Value).toArray RX3 (some .int) := X
  have hl : lv_has ls 3 [(0, .ref (am 0)), (1, .int (iI ((j : Nat) : Int))), (2, .int (iI t))] := hl
  have hn5 := hI.1.1
  have hc := hI.2.1
  have ho := (hI.2.2 j hj).2.2.2.2.1
  have t1 := Int.tmod_lt_of_pos (t - gOff S j) (show 0 < gCyc S by omega)
  have t2 : -(gCyc S) < Int.tmod (t - gOff S j) (gCyc S) := Int.lt_tmod_of_pos _ (by omega)
  refine g_iload_n X dX3_secondOf_0 rfl hl 2 rfl ?_
  refine g_aload_n X dX3_secondOf_1 rfl hl 0 rfl ?_
  refine g_get X hk (v := .ref (am 8)) in_X3 rfl (MP.O hM) 8 (by decide) q609 (rfl) dX3_secondOf_2 ?_
  refine g_iload_n X dX3_secondOf_5 rfl hl 1 rfl ?_
  refine g_ialdv X hk (j := j) (n := 5) (f := (M 8)) (v := (gOff S j)) (MP.I hM 8 rfl) (rfl) (by omega) (MR.off hR hj) dX3_secondOf_6 ?_
  refine g_isub X dX3_secondOf_7 ?_
  refine g_aload_n X dX3_secondOf_8 rfl hl 0 rfl ?_
  refine g_get X hk (v := .int (iI (gCyc S))) in_X3 rfl (MP.O hM) 2 (by decide) q603 (sI (MR.cyc hR)) dX3_secondOf_9 ?_
  refine g_irem X dX3_secondOf_12 (by omega) ?_
  refine g_aload_n X dX3_secondOf_13 rfl hl 0 rfl ?_
  refine g_get X hk (v := .int (iI (gCyc S))) in_X3 rfl (MP.O hM) 2 (by decide) q603 (sI (MR.cyc hR)) dX3_secondOf_14 ?_
  refine g_iadd X dX3_secondOf_17 ?_
  refine g_aload_n X dX3_secondOf_18 rfl hl 0 rfl ?_
  refine g_get X hk (v := .int (iI (gCyc S))) in_X3 rfl (MP.O hM) 2 (by decide) q603 (sI (MR.cyc hR)) dX3_secondOf_19 ?_
  refine g_irem X dX3_secondOf_22 (by omega) ?_
  exact g_iretP X (fl_rem _ _ (by omega)) dX3_secondOf_23
set_option maxHeartbeats 4000000 in
theorem m_cycleOf (l : Launch) (E : EP) (am : Nat → Nat) (S : GS) (M : MS) (H : Heap) (hM : MP E am M H) (hI : gI S) (hR : MR S M) (j : Nat) (hj : j < gN S) (t : Int) (ht : -1000000 ≤ t ∧ t ≤ 1000000) : gP l E yX3_cycleOf cX3_cycleOf 3 .int 1 H [.ref (am 0), .int (iI ((j : Nat) : Int)), .int (iI t)] ((t - gOff S j) / gCyc S) := by
  refine g_met (plainFor_of_name (by decide)) (Nat.le_of_ble_eq_true rfl) (fun P_ e_ s M_ bl mt_ c_ ls X _ hk hh hl => ?_)
  subst hh
  have X : gX P_ s M_ mt_ c_ cX3_cycleOf 3 ([.ref (am 0), .int (iI ((j : Nat) : Int)), .int (iI t)] : List Value).toArray RX3 (some .int) := X
  have hl : lv_has ls 3 [(0, .ref (am 0)), (1, .int (iI ((j : Nat) : Int))), (2, .int (iI t))] := hl
  have hn5 := hI.1.1
  have hc := hI.2.1
  have ho := (hI.2.2 j hj).2.2.2.2.1
  have hm := em_b (t - gOff S j) (gCyc S) hc.1
  refine g_iload_n X dX3_cycleOf_0 rfl hl 2 rfl ?_
  refine g_aload_n X dX3_cycleOf_1 rfl hl 0 rfl ?_
  refine g_get X hk (v := .ref (am 8)) in_X3 rfl (MP.O hM) 8 (by decide) q609 (rfl) dX3_cycleOf_2 ?_
  refine g_iload_n X dX3_cycleOf_5 rfl hl 1 rfl ?_
  refine g_ialdv X hk (j := j) (n := 5) (f := (M 8)) (v := (gOff S j)) (MP.I hM 8 rfl) (rfl) (by omega) (MR.off hR hj) dX3_cycleOf_6 ?_
  refine g_isub X dX3_cycleOf_7 ?_
  refine g_aload_n X dX3_cycleOf_8 rfl hl 0 rfl ?_
  refine g_iload_n X dX3_cycleOf_9 rfl hl 1 rfl ?_
  refine g_iload_n X dX3_cycleOf_10 rfl hl 2 rfl ?_
  refine g_pV X hk (As := [.int (iI ((j : Nat) : Int)), .int (iI t)]) (rest := [.int (iI (t - (gOff S j)))]) rfl (MP.O hM) (m_secondOf l E am S M s.heap hM hI hR j hj t (by omega)) 2 (lw_V q795 q797 qs32 q48 q798) (by decide +kernel) ⟨⟨Nat.le_of_ble_eq_true rfl, Nat.le_of_ble_eq_true rfl⟩, Nat.le_of_ble_eq_true rfl, Nat.le_of_ble_eq_true rfl⟩ rfl rfl hl.1 (Nat.le_of_ble_eq_true rfl) dX3_cycleOf_11 ?_
  refine g_isub X dX3_cycleOf_14 ?_
  refine g_aload_n X dX3_cycleOf_15 rfl hl 0 rfl ?_
  refine g_get X hk (v := .int (iI (gCyc S))) in_X3 rfl (MP.O hM) 2 (by decide) q603 (sI (MR.cyc hR)) dX3_cycleOf_16 ?_
  refine g_idiv X dX3_cycleOf_19 (by omega) ?_
  exact g_iretP X (fl_div _ _ (by omega)) dX3_cycleOf_20
set_option maxHeartbeats 4000000 in
theorem m_phaseAt (l : Launch) (E : EP) (am : Nat → Nat) (S : GS) (M : MS) (H : Heap) (hM : MP E am M H) (hI : gI S) (hR : MR S M) (j : Nat) (hj : j < gN S) (t : Int) (ht : -1000000 ≤ t ∧ t ≤ 1000000) (b : Bool) (hMI : mI M) (g c : Nat → Int) (hgc : ∀ p, p < gNp S j → M 11 (4 * j + p) = g p ∧ M 12 (4 * j + p) = c p) (hgb : ∀ p, p < gNp S j → (0 ≤ g p ∧ g p ≤ 1000) ∧ 0 ≤ c p ∧ c p ≤ 1000) : gP l E yX3_phaseAt cX3_phaseAt 8 .int 2 H [.ref (am 0), .int (iI ((j : Nat) : Int)), .int (iI t), .int (iI (bZ b))] (mPh S g c M j t b) := by
  refine g_met (plainFor_of_name (by decide)) (Nat.le_of_ble_eq_true rfl) (fun P_ e_ s M_ bl mt_ c_ ls X _ hk hh hl => ?_)
  subst hh
  have X : gX P_ s M_ mt_ c_ cX3_phaseAt 8 ([.ref (am 0), .int (iI ((j : Nat) : Int)), .int (iI t), .int (iI (bZ b))] : List Value).toArray RX3 (some .int) := X
  have hl : lv_has ls 8 [(0, .ref (am 0)), (1, .int (iI ((j : Nat) : Int))), (2, .int (iI t)), (3, .int (iI (bZ b)))] := hl
  have hn5 := hI.1.1
  have hc := hI.2.1
  have ho := (hI.2.2 j hj).2.2.2.2.1
  have hnp := (hI.2.2 j hj).1
  have hm := em_b (t - gOff S j) (gCyc S) hc.1
  have hb01 := bZ_le b
  have hmj := hMI j (by omega)
  have hfb := fl_b (A := 1000090) (show 0 < gCyc S by omega) (show -1000090 ≤ t - gOff S j ∧ t - gOff S j ≤ 1000090 by omega)
  refine g_aload_n X dX3_phaseAt_0 rfl hl 0 rfl ?_
  refine g_iload_n X dX3_phaseAt_1 rfl hl 1 rfl ?_
  refine g_iload_n X dX3_phaseAt_2 rfl hl 2 rfl ?_
  refine g_pV X hk (As := [.int (iI ((j : Nat) : Int)), .int (iI t)]) (rest := []) rfl (MP.O hM) (m_secondOf l E am S M s.heap hM hI hR j hj t (by omega)) 2 (lw_V q795 q797 qs32 q48 q798) (by decide +kernel) ⟨⟨Nat.le_of_ble_eq_true rfl, Nat.le_of_ble_eq_true rfl⟩, Nat.le_of_ble_eq_true rfl, Nat.le_of_ble_eq_true rfl⟩ rfl rfl hl.1 (Nat.le_of_ble_eq_true rfl) dX3_phaseAt_3 ?_
  refine g_istore (lv' := [(4, .int (iI ((t - gOff S j) % gCyc S))), (0, .ref (am 0)), (1, .int (iI ((j : Nat) : Int))), (2, .int (iI t)), (3, .int (iI (bZ b)))]) X dX3_phaseAt_6 hl (by decide) rfl (fun ls hl => ?_)
  have join_41 : gHide (∀ (z : Int) (ls : Array Slot), z = (bZ (mcal S M j t b)) → lv_has ls 8 [(4, .int (iI ((t - gOff S j) % gCyc S))), (0, .ref (am 0)), (1, .int (iI ((j : Nat) : Int))), (2, .int (iI t)), (3, .int (iI (bZ b)))] → W P_ l e_ (gR 2 0 0) s M_ ([.ref (am 0), .int (iI ((j : Nat) : Int)), .int (iI t), .int (iI (bZ b))] : List Value).toArray bl mt_ c_ s.heap [] 0 0 (MQ bl (QcRead (iI (mPh S g c M j t b))) ([.ref (am 0), .int (iI ((j : Nat) : Int)), .int (iI t), .int (iI (bZ b))] : List Value).toArray s 0 0 (fun _ => False)) (F0 M_ 41 ls [.int (iI z)])) := by
    intro z ls e_z hl
    subst e_z
    have hl : lv_has ls 8 [(4, .int (iI ((t - gOff S j) % gCyc S))), (0, .ref (am 0)), (1, .int (iI ((j : Nat) : Int))), (2, .int (iI t)), (3, .int (iI (bZ b)))] := hl
    have hz01 := bZ_le (mcal S M j t b)
    refine g_istore (lv' := [(5, .int (iI (bZ (mcal S M j t b)))), (4, .int (iI ((t - gOff S j) % gCyc S))), (0, .ref (am 0)), (1, .int (iI ((j : Nat) : Int))), (2, .int (iI t)), (3, .int (iI (bZ b)))]) X dX3_phaseAt_41 hl (by decide) rfl (fun ls hl => ?_)
    refine g_iconst X dX3_phaseAt_43 ?_
    refine g_istore (lv' := [(6, .int (iI 0)), (5, .int (iI (bZ (mcal S M j t b)))), (4, .int (iI ((t - gOff S j) % gCyc S))), (0, .ref (am 0)), (1, .int (iI ((j : Nat) : Int))), (2, .int (iI t)), (3, .int (iI (bZ b)))]) X dX3_phaseAt_44 hl (by decide) rfl (fun ls hl => ?_)
    have loop_46 : gHide (∀ (n_ : Nat) (k : Nat) (v6 : Int) (r : Int), gNp S j + 1 ≤ k + n_ → v6 = ((k : Nat) : Int) → (k ≤ gNp S j) → (-3000 * (k : Int) ≤ r ∧ r ≤ 100 + 10 * (k : Int)) → (mPh S g c M j t b = phA (mAdj g M j (mcal S M j t b)) c (gNp S j - k) k r) → ∀ (ls : Array Slot), lv_has ls 8 [(6, .int (iI v6)), (4, .int (iI r)), (5, .int (iI (bZ (mcal S M j t b)))), (0, .ref (am 0)), (1, .int (iI ((j : Nat) : Int)))] → W P_ l e_ (gR 2 0 0) s M_ ([.ref (am 0), .int (iI ((j : Nat) : Int)), .int (iI t), .int (iI (bZ b))] : List Value).toArray bl mt_ c_ s.heap [] 0 0 (MQ bl (QcRead (iI (mPh S g c M j t b))) ([.ref (am 0), .int (iI ((j : Nat) : Int)), .int (iI t), .int (iI (bZ b))] : List Value).toArray s 0 0 (fun _ => False)) (F0 M_ 46 ls [])) := by
      intro n_
      induction n_ with
      | zero => intro k v6 r hb_ e_v6 hkb hrb hA ls hl; exact absurd hb_ (by omega)
      | succ n_ ih_46 =>
        replace ih_46 := gHide.mk ih_46
        intro k v6 r hb_ e_v6 hkb hrb hA ls hl
        subst e_v6
        have hl : lv_has ls 8 [(6, .int (iI ((k : Nat) : Int))), (4, .int (iI r)), (5, .int (iI (bZ (mcal S M j t b)))), (0, .ref (am 0)), (1, .int (iI ((j : Nat) : Int)))] := hl
        refine g_iload X dX3_phaseAt_46 hl 0 rfl ?_
        refine g_aload_n X dX3_phaseAt_48 rfl hl 3 rfl ?_
        refine g_get X hk (v := .ref (am 6)) in_X3 rfl (MP.O hM) 6 (by decide) q607 (rfl) dX3_phaseAt_49 ?_
        refine g_iload_n X dX3_phaseAt_52 rfl hl 4 rfl ?_
        refine g_ialdv X hk (j := j) (n := 5) (f := (M 6)) (v := (((gNp S j) : Nat) : Int)) (MP.I hM 6 rfl) (rfl) (by omega) (MR.np hR hj) dX3_phaseAt_53 ?_
        refine g_icmp_ge X dX3_phaseAt_54 (tgt := 176) (by decide) (by omega) (fun c54 => ?_) (fun c54 => ?_)
        · refine g_iconst X dX3_phaseAt_176 ?_
          exact g_iretP X (by rw [hA, show gNp S j - k = 0 by omega]; rfl) dX3_phaseAt_177
        · have hgk := hgb k (by omega)
          have hcl : bZ (mcal S M j t b) = 0 ∨ bZ (mcal S M j t b) = 1 := by have := bZ_le (mcal S M j t b); omega
          refine g_aload_n X dX3_phaseAt_57 rfl hl 3 rfl ?_
          refine g_get X hk (v := .ref (am 11)) in_X3 rfl (MP.O hM) 11 (by decide) q612 (rfl) dX3_phaseAt_58 ?_
          refine g_iconst X dX3_phaseAt_61 ?_
          refine g_iload_n X dX3_phaseAt_62 rfl hl 4 rfl ?_
          refine g_imul X dX3_phaseAt_63 ?_
          refine g_iload X dX3_phaseAt_64 hl 0 rfl ?_
          refine g_iadd X dX3_phaseAt_66 ?_
          refine g_ialdv X hk (j := ((4 * j) + k)) (n := 20) (f := (M 11)) (v := (g k)) (MP.I hM 11 rfl) (by omega) (by omega) ((hgc k (by omega)).1) dX3_phaseAt_67 ?_
          refine g_istore (lv' := [(7, .int (iI (g k))), (6, .int (iI ((k : Nat) : Int))), (4, .int (iI r)), (5, .int (iI (bZ (mcal S M j t b)))), (0, .ref (am 0)), (1, .int (iI ((j : Nat) : Int)))]) X dX3_phaseAt_68 hl (by decide) rfl (fun ls hl => ?_)
          refine g_iload X dX3_phaseAt_70 hl 0 rfl ?_
          refine g_iload X dX3_phaseAt_72 hl 3 rfl ?_
          have join_98 : gHide (∀ (z : Int) (ls : Array Slot), z = (if mcal S M j t b = true ∧ (k : Int) = M 24 j then M 26 j else 0) → lv_has ls 8 [(7, .int (iI (g k))), (6, .int (iI ((k : Nat) : Int))), (4, .int (iI r)), (5, .int (iI (bZ (mcal S M j t b)))), (0, .ref (am 0)), (1, .int (iI ((j : Nat) : Int)))] → W P_ l e_ (gR 2 0 0) s M_ ([.ref (am 0), .int (iI ((j : Nat) : Int)), .int (iI t), .int (iI (bZ b))] : List Value).toArray bl mt_ c_ s.heap [] 0 0 (MQ bl (QcRead (iI (mPh S g c M j t b))) ([.ref (am 0), .int (iI ((j : Nat) : Int)), .int (iI t), .int (iI (bZ b))] : List Value).toArray s 0 0 (fun _ => False)) (F0 M_ 98 ls [.int (iI z), .int (iI (g k))])) := by
            intro z ls e_z hl
            subst e_z
            have hl : lv_has ls 8 [(7, .int (iI (g k))), (6, .int (iI ((k : Nat) : Int))), (4, .int (iI r)), (5, .int (iI (bZ (mcal S M j t b)))), (0, .ref (am 0)), (1, .int (iI ((j : Nat) : Int)))] := hl
            have hz1 : 0 ≤ (if mcal S M j t b = true ∧ (k : Int) = M 24 j then M 26 j else 0) ∧ (if mcal S M j t b = true ∧ (k : Int) = M 24 j then M 26 j else 0) ≤ 5 := by split <;> omega
            refine g_iadd X dX3_phaseAt_98 ?_
            refine g_istore (lv' := [(7, .int (iI ((g k) + (if mcal S M j t b = true ∧ (k : Int) = M 24 j then M 26 j else 0)))), (6, .int (iI ((k : Nat) : Int))), (4, .int (iI r)), (5, .int (iI (bZ (mcal S M j t b)))), (0, .ref (am 0)), (1, .int (iI ((j : Nat) : Int)))]) X dX3_phaseAt_99 hl (by decide) rfl (fun ls hl => ?_)
            refine g_iload X dX3_phaseAt_101 hl 0 rfl ?_
            refine g_iload X dX3_phaseAt_103 hl 3 rfl ?_
            have join_129 : gHide (∀ (z : Int) (ls : Array Slot), z = (if mcal S M j t b = true ∧ (k : Int) = M 25 j then M 26 j else 0) → lv_has ls 8 [(7, .int (iI ((g k) + (if mcal S M j t b = true ∧ (k : Int) = M 24 j then M 26 j else 0)))), (6, .int (iI ((k : Nat) : Int))), (4, .int (iI r)), (5, .int (iI (bZ (mcal S M j t b)))), (0, .ref (am 0)), (1, .int (iI ((j : Nat) : Int)))] → W P_ l e_ (gR 2 0 0) s M_ ([.ref (am 0), .int (iI ((j : Nat) : Int)), .int (iI t), .int (iI (bZ b))] : List Value).toArray bl mt_ c_ s.heap [] 0 0 (MQ bl (QcRead (iI (mPh S g c M j t b))) ([.ref (am 0), .int (iI ((j : Nat) : Int)), .int (iI t), .int (iI (bZ b))] : List Value).toArray s 0 0 (fun _ => False)) (F0 M_ 129 ls [.int (iI z), .int (iI ((g k) + (if mcal S M j t b = true ∧ (k : Int) = M 24 j then M 26 j else 0)))])) := by
              intro z ls e_z hl
              subst e_z
              have hl : lv_has ls 8 [(7, .int (iI ((g k) + (if mcal S M j t b = true ∧ (k : Int) = M 24 j then M 26 j else 0)))), (6, .int (iI ((k : Nat) : Int))), (4, .int (iI r)), (5, .int (iI (bZ (mcal S M j t b)))), (0, .ref (am 0)), (1, .int (iI ((j : Nat) : Int)))] := hl
              have hz2 : 0 ≤ (if mcal S M j t b = true ∧ (k : Int) = M 25 j then M 26 j else 0) ∧ (if mcal S M j t b = true ∧ (k : Int) = M 25 j then M 26 j else 0) ≤ 5 := by split <;> omega
              refine g_isub X dX3_phaseAt_129 ?_
              refine g_istore (lv' := [(7, .int (iI (((g k) + (if mcal S M j t b = true ∧ (k : Int) = M 24 j then M 26 j else 0)) - (if mcal S M j t b = true ∧ (k : Int) = M 25 j then M 26 j else 0)))), (6, .int (iI ((k : Nat) : Int))), (4, .int (iI r)), (5, .int (iI (bZ (mcal S M j t b)))), (0, .ref (am 0)), (1, .int (iI ((j : Nat) : Int)))]) X dX3_phaseAt_130 hl (by decide) rfl (fun ls hl => ?_)
              have hG : mAdj g M j (mcal S M j t b) k = (((g k) + (if mcal S M j t b = true ∧ (k : Int) = M 24 j then M 26 j else 0)) - (if mcal S M j t b = true ∧ (k : Int) = M 25 j then M 26 j else 0)) := rfl
              refine g_iload X dX3_phaseAt_132 hl 2 rfl ?_
              refine g_iload X dX3_phaseAt_134 hl 0 rfl ?_
              refine g_icmp_ge X dX3_phaseAt_136 (tgt := 151) (by decide) (by omega) (fun c136 => ?_) (fun c136 => ?_)
              · have hN : mPh S g c M j t b = phA (mAdj g M j (mcal S M j t b)) c (gNp S j - (k + 1)) (k + 1) (r - ((((g k) + (if mcal S M j t b = true ∧ (k : Int) = M 24 j then M 26 j else 0)) - (if mcal S M j t b = true ∧ (k : Int) = M 25 j then M 26 j else 0)) + c k)) := by
                  rw [hA, phA_step (by omega) (by rw [hG]; omega), hG]
                refine g_iload X dX3_phaseAt_151 hl 2 rfl ?_
                refine g_iload X dX3_phaseAt_153 hl 0 rfl ?_
                refine g_aload_n X dX3_phaseAt_155 rfl hl 4 rfl ?_
                refine g_get X hk (v := .ref (am 12)) in_X3 rfl (MP.O hM) 12 (by decide) q613 (rfl) dX3_phaseAt_156 ?_
                refine g_iconst X dX3_phaseAt_159 ?_
                refine g_iload_n X dX3_phaseAt_160 rfl hl 5 rfl ?_
                refine g_imul X dX3_phaseAt_161 ?_
                refine g_iload X dX3_phaseAt_162 hl 1 rfl ?_
                refine g_iadd X dX3_phaseAt_164 ?_
                refine g_ialdv X hk (j := ((4 * j) + k)) (n := 20) (f := (M 12)) (v := (c k)) (MP.I hM 12 rfl) (by omega) (by omega) ((hgc k (by omega)).2) dX3_phaseAt_165 ?_
                refine g_iadd X dX3_phaseAt_166 ?_
                refine g_isub X dX3_phaseAt_167 ?_
                refine g_istore (lv' := [(4, .int (iI (r - ((((g k) + (if mcal S M j t b = true ∧ (k : Int) = M 24 j then M 26 j else 0)) - (if mcal S M j t b = true ∧ (k : Int) = M 25 j then M 26 j else 0)) + (c k))))), (7, .int (iI (((g k) + (if mcal S M j t b = true ∧ (k : Int) = M 24 j then M 26 j else 0)) - (if mcal S M j t b = true ∧ (k : Int) = M 25 j then M 26 j else 0)))), (6, .int (iI ((k : Nat) : Int))), (5, .int (iI (bZ (mcal S M j t b)))), (0, .ref (am 0)), (1, .int (iI ((j : Nat) : Int)))]) X dX3_phaseAt_168 hl (by decide) rfl (fun ls hl => ?_)
                refine g_iinc (lv' := [(6, .int (iI (((k : Nat) : Int) + 1))), (4, .int (iI (r - ((((g k) + (if mcal S M j t b = true ∧ (k : Int) = M 24 j then M 26 j else 0)) - (if mcal S M j t b = true ∧ (k : Int) = M 25 j then M 26 j else 0)) + (c k))))), (7, .int (iI (((g k) + (if mcal S M j t b = true ∧ (k : Int) = M 24 j then M 26 j else 0)) - (if mcal S M j t b = true ∧ (k : Int) = M 25 j then M 26 j else 0)))), (5, .int (iI (bZ (mcal S M j t b)))), (0, .ref (am 0)), (1, .int (iI ((j : Nat) : Int)))]) X dX3_phaseAt_170 hl (k := 2) rfl (by decide) rfl (fun ls hl => ?_)
                refine g_goto X dX3_phaseAt_173 (tgt := 46) (by decide) ?_
                exact ih_46.out (k + 1) (((k : Nat) : Int) + 1) (r - ((((g k) + (if mcal S M j t b = true ∧ (k : Int) = M 24 j then M 26 j else 0)) - (if mcal S M j t b = true ∧ (k : Int) = M 25 j then M 26 j else 0)) + (c k))) (by omega) (by omega) (by omega) (by omega) hN _ (lv_sub hl [0, 1, 3, 4, 5] rfl)
              · refine g_iload X dX3_phaseAt_139 hl 2 rfl ?_
                refine g_if_ge X dX3_phaseAt_141 (tgt := 148) (by decide) (by omega) (fun c141 => ?_) (fun c141 => ?_)
                · refine g_iload X dX3_phaseAt_148 hl 1 rfl ?_
                  exact g_iretP X (by rw [hA, show gNp S j - k = (gNp S j - (k + 1)) + 1 by omega]; simp only [phA]; rw [hG, if_pos (by omega)]; rw [if_neg (by omega)]) dX3_phaseAt_150
                · refine g_iconst X dX3_phaseAt_144 ?_
                  refine g_goto X dX3_phaseAt_145 (tgt := 150) (by decide) ?_
                  exact g_iretP X (by rw [hA, show gNp S j - k = (gNp S j - (k + 1)) + 1 by omega]; simp only [phA]; rw [hG, if_pos (by omega)]; rw [if_pos (by omega)]) dX3_phaseAt_150
            refine g_if_eq X dX3_phaseAt_105 (tgt := 128) (by decide) (by omega) (fun c105 => ?_) (fun c105 => ?_)
            · refine g_iconst X dX3_phaseAt_128 ?_
              exact join_129.out 0 _ (by grind [bZ]) (lv_sub hl [0, 1, 2, 3, 4, 5] rfl)
            · refine g_iload X dX3_phaseAt_108 hl 1 rfl ?_
              refine g_aload_n X dX3_phaseAt_110 rfl hl 4 rfl ?_
              refine g_get X hk (v := .ref (am 25)) in_X3 rfl (MP.O hM) 25 (by decide) q626 (rfl) dX3_phaseAt_111 ?_
              refine g_iload_n X dX3_phaseAt_114 rfl hl 5 rfl ?_
              refine g_ialdv X hk (j := j) (n := 5) (f := (M 25)) (v := ((M 25) j)) (MP.I hM 25 rfl) (rfl) (by omega) (rfl) dX3_phaseAt_115 ?_
              refine g_icmp_ne X dX3_phaseAt_116 (tgt := 128) (by decide) (by omega) (fun c116 => ?_) (fun c116 => ?_)
              · refine g_iconst X dX3_phaseAt_128 ?_
                exact join_129.out 0 _ (by grind [bZ]) (lv_sub hl [0, 1, 2, 3, 4, 5] rfl)
              · refine g_aload_n X dX3_phaseAt_119 rfl hl 4 rfl ?_
                refine g_get X hk (v := .ref (am 26)) in_X3 rfl (MP.O hM) 26 (by decide) q627 (rfl) dX3_phaseAt_120 ?_
                refine g_iload_n X dX3_phaseAt_123 rfl hl 5 rfl ?_
                refine g_ialdv X hk (j := j) (n := 5) (f := (M 26)) (v := ((M 26) j)) (MP.I hM 26 rfl) (rfl) (by omega) (rfl) dX3_phaseAt_124 ?_
                refine g_goto X dX3_phaseAt_125 (tgt := 129) (by decide) ?_
                exact join_129.out ((M 26) j) _ (by grind [bZ]) (lv_sub hl [0, 1, 2, 3, 4, 5] rfl)
          refine g_if_eq X dX3_phaseAt_74 (tgt := 97) (by decide) (by omega) (fun c74 => ?_) (fun c74 => ?_)
          · refine g_iconst X dX3_phaseAt_97 ?_
            exact join_98.out 0 _ (by grind [bZ]) (lv_sub hl [0, 1, 2, 3, 4, 5] rfl)
          · refine g_iload X dX3_phaseAt_77 hl 1 rfl ?_
            refine g_aload_n X dX3_phaseAt_79 rfl hl 4 rfl ?_
            refine g_get X hk (v := .ref (am 24)) in_X3 rfl (MP.O hM) 24 (by decide) q625 (rfl) dX3_phaseAt_80 ?_
            refine g_iload_n X dX3_phaseAt_83 rfl hl 5 rfl ?_
            refine g_ialdv X hk (j := j) (n := 5) (f := (M 24)) (v := ((M 24) j)) (MP.I hM 24 rfl) (rfl) (by omega) (rfl) dX3_phaseAt_84 ?_
            refine g_icmp_ne X dX3_phaseAt_85 (tgt := 97) (by decide) (by omega) (fun c85 => ?_) (fun c85 => ?_)
            · refine g_iconst X dX3_phaseAt_97 ?_
              exact join_98.out 0 _ (by grind [bZ]) (lv_sub hl [0, 1, 2, 3, 4, 5] rfl)
            · refine g_aload_n X dX3_phaseAt_88 rfl hl 4 rfl ?_
              refine g_get X hk (v := .ref (am 26)) in_X3 rfl (MP.O hM) 26 (by decide) q627 (rfl) dX3_phaseAt_89 ?_
              refine g_iload_n X dX3_phaseAt_92 rfl hl 5 rfl ?_
              refine g_ialdv X hk (j := j) (n := 5) (f := (M 26)) (v := ((M 26) j)) (MP.I hM 26 rfl) (rfl) (by omega) (rfl) dX3_phaseAt_93 ?_
              refine g_goto X dX3_phaseAt_94 (tgt := 98) (by decide) ?_
              exact join_98.out ((M 26) j) _ (by grind [bZ]) (lv_sub hl [0, 1, 2, 3, 4, 5] rfl)
    exact loop_46.out (gNp S j + 1) 0 0 ((t - gOff S j) % gCyc S) (by omega) (rfl) (by omega) (by omega) rfl _ (lv_sub hl [0, 2, 1, 3, 4] rfl)
  refine g_iload_n X dX3_phaseAt_8 rfl hl 4 rfl ?_
  refine g_if_eq X dX3_phaseAt_9 (tgt := 40) (by decide) (by omega) (fun c9 => ?_) (fun c9 => ?_)
  · refine g_iconst X dX3_phaseAt_40 ?_
    exact join_41.out 0 _ (by grind [bZ, mcal]) (lv_sub hl [0, 1, 2, 3, 4] rfl)
  · refine g_aload_n X dX3_phaseAt_12 rfl hl 1 rfl ?_
    refine g_get X hk (v := .ref (am 22)) in_X3 rfl (MP.O hM) 22 (by decide) q623 (rfl) dX3_phaseAt_13 ?_
    refine g_iload_n X dX3_phaseAt_16 rfl hl 2 rfl ?_
    refine g_baldv X hk (j := j) (n := 5) (f := (M 22)) (v := ((M 22) j)) (MP.Z hM 22 rfl) (rfl) (by omega) (rfl) dX3_phaseAt_17 ?_
    refine g_if_eq X dX3_phaseAt_18 (tgt := 40) (by decide) (by omega) (fun c18 => ?_) (fun c18 => ?_)
    · refine g_iconst X dX3_phaseAt_40 ?_
      exact join_41.out 0 _ (by grind [bZ, mcal]) (lv_sub hl [0, 1, 2, 3, 4] rfl)
    · refine g_aload_n X dX3_phaseAt_21 rfl hl 1 rfl ?_
      refine g_get X hk (v := .ref (am 23)) in_X3 rfl (MP.O hM) 23 (by decide) q624 (rfl) dX3_phaseAt_22 ?_
      refine g_iload_n X dX3_phaseAt_25 rfl hl 2 rfl ?_
      refine g_ialdv X hk (j := j) (n := 5) (f := (M 23)) (v := ((M 23) j)) (MP.I hM 23 rfl) (rfl) (by omega) (rfl) dX3_phaseAt_26 ?_
      refine g_aload_n X dX3_phaseAt_27 rfl hl 1 rfl ?_
      refine g_iload_n X dX3_phaseAt_28 rfl hl 2 rfl ?_
      refine g_iload_n X dX3_phaseAt_29 rfl hl 3 rfl ?_
      refine g_pV X hk (As := [.int (iI ((j : Nat) : Int)), .int (iI t)]) (rest := [.int (iI ((M 23) j))]) rfl (MP.O hM) (m_cycleOf l E am S M s.heap hM hI hR j hj t (by omega)) 2 (lw_V q799 q801 qs33 q48 q802) (by decide +kernel) ⟨⟨Nat.le_of_ble_eq_true rfl, Nat.le_of_ble_eq_true rfl⟩, Nat.le_of_ble_eq_true rfl, Nat.le_of_ble_eq_true rfl⟩ rfl rfl hl.1 (Nat.le_of_ble_eq_true rfl) dX3_phaseAt_30 ?_
      refine g_icmp_ne X dX3_phaseAt_33 (tgt := 40) (by decide) (by omega) (fun c33 => ?_) (fun c33 => ?_)
      · refine g_iconst X dX3_phaseAt_40 ?_
        exact join_41.out 0 _ (by grind [bZ, mcal]) (lv_sub hl [0, 1, 2, 3, 4] rfl)
      · refine g_iconst X dX3_phaseAt_36 ?_
        refine g_goto X dX3_phaseAt_37 (tgt := 41) (by decide) ?_
        exact join_41.out 1 _ (by grind [bZ, mcal]) (lv_sub hl [0, 1, 2, 3, 4] rfl)
set_option maxHeartbeats 4000000 in
theorem m_isGreenAt (l : Launch) (E : EP) (am : Nat → Nat) (S : GS) (M : MS) (H : Heap) (hM : MP E am M H) (hI : gI S) (hR : MR S M) (j : Nat) (hj : j < gN S) (v : Int) (t : Int) (ht : -1000000 ≤ t ∧ t ≤ 1000000) (b : Bool) (hMI : mI M) (g c : Nat → Int) (hgc : ∀ p, p < gNp S j → M 11 (4 * j + p) = g p ∧ M 12 (4 * j + p) = c p) (hgb : ∀ p, p < gNp S j → (0 ≤ g p ∧ g p ≤ 1000) ∧ 0 ≤ c p ∧ c p ≤ 1000) : gP l E yX3_isGreenAt cX3_isGreenAt 6 .boolean 3 H [.ref (am 0), .int (iI ((j : Nat) : Int)), .int (iI v), .int (iI t), .int (iI (bZ b))] (bZ (mGn S g c M j v t b)) := by
  refine g_met (plainFor_of_name (by decide)) (Nat.le_of_ble_eq_true rfl) (fun P_ e_ s M_ bl mt_ c_ ls X _ hk hh hl => ?_)
  subst hh
  have X : gX P_ s M_ mt_ c_ cX3_isGreenAt 6 ([.ref (am 0), .int (iI ((j : Nat) : Int)), .int (iI v), .int (iI t), .int (iI (bZ b))] : List Value).toArray RX3 (some .boolean) := X
  have hl : lv_has ls 6 [(0, .ref (am 0)), (1, .int (iI ((j : Nat) : Int))), (2, .int (iI v)), (3, .int (iI t)), (4, .int (iI (bZ b)))] := hl
  have hn5 := hI.1.1
  have hnp := (hI.2.2 j hj).1
  have hb01 := bZ_le b
  have hr := phA_rng (mAdj g M j (mcal S M j t b)) c (gNp S j) 0 ((t - gOff S j) % gCyc S)
  have hr : mPh S g c M j t b = -1 ∨ (0 ≤ mPh S g c M j t b ∧ mPh S g c M j t b < gNp S j) := by unfold mPh; omega
  refine g_aload_n X dX3_isGreenAt_0 rfl hl 0 rfl ?_
  refine g_iload_n X dX3_isGreenAt_1 rfl hl 1 rfl ?_
  refine g_iload_n X dX3_isGreenAt_2 rfl hl 3 rfl ?_
  refine g_iload X dX3_isGreenAt_3 hl 4 rfl ?_
  refine g_pV X hk (As := [.int (iI ((j : Nat) : Int)), .int (iI t), .int (iI (bZ b))]) (rest := []) rfl (MP.O hM) (m_phaseAt l E am S M s.heap hM hI hR j hj t (by omega) b hMI g c hgc hgb) 3 (lw_V q791 q793 qs31 q48 q794) (by decide +kernel) ⟨⟨Nat.le_of_ble_eq_true rfl, Nat.le_of_ble_eq_true rfl⟩, Nat.le_of_ble_eq_true rfl, Nat.le_of_ble_eq_true rfl⟩ rfl rfl hl.1 (Nat.le_of_ble_eq_true rfl) dX3_isGreenAt_5 ?_
  refine g_istore (lv' := [(5, .int (iI (mPh S g c M j t b))), (0, .ref (am 0)), (1, .int (iI ((j : Nat) : Int))), (2, .int (iI v)), (3, .int (iI t)), (4, .int (iI (bZ b)))]) X dX3_isGreenAt_8 hl (by decide) rfl (fun ls hl => ?_)
  refine g_iload X dX3_isGreenAt_10 hl 0 rfl ?_
  refine g_iconst X dX3_isGreenAt_12 ?_
  refine g_icmp_eq X dX3_isGreenAt_13 (tgt := 38) (by decide) (by omega) (fun c13 => ?_) (fun c13 => ?_)
  · refine g_iconst X dX3_isGreenAt_38 ?_
    exact g_zretP X (by first | exact bZ_le _ | omega) (by unfold mGn; grind [bZ]) dX3_isGreenAt_39
  · refine g_aload_n X dX3_isGreenAt_16 rfl hl 1 rfl ?_
    refine g_get X hk (v := .ref (am 5)) in_X3 rfl (MP.O hM) 5 (by decide) q606 (rfl) dX3_isGreenAt_17 ?_
    refine g_iconst X dX3_isGreenAt_20 ?_
    refine g_iload_n X dX3_isGreenAt_21 rfl hl 2 rfl ?_
    refine g_imul X dX3_isGreenAt_22 ?_
    refine g_iload X dX3_isGreenAt_23 hl 0 rfl ?_
    refine g_iadd X dX3_isGreenAt_25 ?_
    refine g_ialdv X hk (j := (4 * j) + (mPh S g c M j t b).toNat) (n := 20) (f := (M 5)) (v := (gPh S j ((mPh S g c M j t b).toNat))) (MP.I hM 5 rfl) (by omega) (by omega) (MR.ph hR hj (by omega)) dX3_isGreenAt_26 ?_
    refine g_iload_n X dX3_isGreenAt_27 rfl hl 3 rfl ?_
    refine g_pS X hk (As := [.int (iI (gPh S j ((mPh S g c M j t b).toNat))), .int (iI v)]) (rest := []) (m_has l E (gPh S j ((mPh S g c M j t b).toNat)) v s.heap) 2 (lw_S q713 q714 q48 q715) (by decide +kernel) ⟨⟨Nat.le_of_ble_eq_true rfl, Nat.le_of_ble_eq_true rfl⟩, Nat.le_of_ble_eq_true rfl, Nat.le_of_ble_eq_true rfl⟩ rfl rfl hl.1 (Nat.le_of_ble_eq_true rfl) dX3_isGreenAt_28 ?_
    have h31 := bZ_le (hasB (gPh S j (mPh S g c M j t b).toNat) v)
    refine g_if_eq X dX3_isGreenAt_31 (tgt := 38) (by decide) (by omega) (fun c31 => ?_) (fun c31 => ?_)
    · refine g_iconst X dX3_isGreenAt_38 ?_
      exact g_zretP X (by first | exact bZ_le _ | omega) (by unfold mGn; grind [bZ]) dX3_isGreenAt_39
    · refine g_iconst X dX3_isGreenAt_34 ?_
      refine g_goto X dX3_isGreenAt_35 (tgt := 39) (by decide) ?_
      exact g_zretP X (by first | exact bZ_le _ | omega) (by unfold mGn; grind [bZ]) dX3_isGreenAt_39
theorem m_isGreenF (l : Launch) (E : EP) (am : Nat → Nat) (S : GS) (M : MS) (H : Heap) (hM : MP E am M H) (hI : gI S) (hR : MR S M) (j : Nat) (hj : j < gN S) (v : Int) (t : Int) (ht : -1000000 ≤ t ∧ t ≤ 1000000) (hMI : mI M) (hL : 0 ≤ lft S j) (hPl : mPl S M j) : gP l E yX3_isGreenAt cX3_isGreenAt 6 .boolean 3 H [.ref (am 0), .int (iI ((j : Nat) : Int)), .int (iI v), .int (iI t), .int (iI 0)] (bZ (gAt S j v t)) := by
  have h := m_isGreenAt l E am S M H hM hI hR j hj v t ht false hMI (grn S j) (clr S j) hPl (fun p hp => by
    have h1 := grn_b hI hj hL hp
    have h2 := clr_b (hI.2.2 j hj) p
    omega)
  rw [mGn_f] at h
  exact h
set_option maxHeartbeats 4000000 in
theorem m_isFree (l : Launch) (E : EP) (am : Nat → Nat) (S : GS) (M : MS) (H : Heap) (hM : MP E am M H) (hI : gI S) (hR : MR S M) (t : Int) (ht : 0 ≤ t ∧ t ≤ 1000) (f : Bool) (hMI : mI M) (hL : ∀ j, j < gN S → 0 ≤ lft S j) (hPl : ∀ j, j < gN S → mPl S M j) : gP l E yX3_isFree cX3_isFree 6 .boolean 4 H [.ref (am 0), .int (iI t), .int (iI (bZ f))] (bZ (frK S f t (gN S))) := by
  refine g_met (plainFor_of_name (by decide)) (Nat.le_of_ble_eq_true rfl) (fun P_ e_ s M_ bl mt_ c_ ls X _ hk hh hl => ?_)
  subst hh
  have X : gX P_ s M_ mt_ c_ cX3_isFree 6 ([.ref (am 0), .int (iI t), .int (iI (bZ f))] : List Value).toArray RX3 (some .boolean) := X
  have hl : lv_has ls 6 [(0, .ref (am 0)), (1, .int (iI t)), (2, .int (iI (bZ f)))] := hl
  have hn5 := hI.1.1
  have hf01 := bZ_le f
  have hf2 := bZ_1 f
  have hf3 := bZ_0 f
  have hst : ∀ k i, frK S f t k = false → frK S f t (k + i) = false := by
    intro k i h
    induction i with
    | zero => exact h
    | succ i ih => show (frK S f t (k + i) && _) = false; rw [ih]; rfl
  refine g_iload_n X dX3_isFree_0 rfl hl 1 rfl ?_
  refine g_istore_n (lv' := [(3, .int (iI t)), (0, .ref (am 0)), (1, .int (iI t)), (2, .int (iI (bZ f)))]) X dX3_isFree_1 rfl hl (by decide) rfl (fun ls hl => ?_)
  refine g_iconst X dX3_isFree_2 ?_
  refine g_istore (lv' := [(4, .int (iI 0)), (3, .int (iI t)), (0, .ref (am 0)), (1, .int (iI t)), (2, .int (iI (bZ f)))]) X dX3_isFree_3 hl (by decide) rfl (fun ls hl => ?_)
  have loop_5 : gHide (∀ (n_ : Nat) (k : Nat) (v4 : Int) (v3 : Int), gN S + 1 ≤ k + n_ → v4 = ((k : Nat) : Int) → v3 = (atK S f t k) → (k ≤ gN S) → (frK S f t k = true) → ∀ (ls : Array Slot), lv_has ls 6 [(4, .int (iI v4)), (3, .int (iI v3)), (0, .ref (am 0)), (1, .int (iI t)), (2, .int (iI (bZ f)))] → W P_ l e_ (gR 4 0 0) s M_ ([.ref (am 0), .int (iI t), .int (iI (bZ f))] : List Value).toArray bl mt_ c_ s.heap [] 0 0 (MQ bl (QcRead (iI (bZ (frK S f t (gN S))))) ([.ref (am 0), .int (iI t), .int (iI (bZ f))] : List Value).toArray s 0 0 (fun _ => False)) (F0 M_ 5 ls [])) := by
    intro n_
    induction n_ with
    | zero => intro k v4 v3 hb_ e_v4 e_v3 hkb hA ls hl; exact absurd hb_ (by omega)
    | succ n_ ih_5 =>
      replace ih_5 := gHide.mk ih_5
      intro k v4 v3 hb_ e_v4 e_v3 hkb hA ls hl
      subst e_v4
      subst e_v3
      have hl : lv_has ls 6 [(4, .int (iI ((k : Nat) : Int))), (3, .int (iI (atK S f t k))), (0, .ref (am 0)), (1, .int (iI t)), (2, .int (iI (bZ f)))] := hl
      have hat := atK_b hI f t k
      refine g_iload X dX3_isFree_5 hl 0 rfl ?_
      refine g_aload_n X dX3_isFree_7 rfl hl 2 rfl ?_
      refine g_get X hk (v := .int (iI (((gN S) : Nat) : Int))) in_X3 rfl (MP.O hM) 1 (by decide) q602 (sI (MR.n hR)) dX3_isFree_8 ?_
      refine g_icmp_ge X dX3_isFree_11 (tgt := 112) (by decide) (by omega) (fun c11 => ?_) (fun c11 => ?_)
      · refine g_iconst X dX3_isFree_112 ?_
        exact g_zretP X (by first | exact bZ_le _ | omega) (by rw [show gN S = k by omega, hA]; rfl) dX3_isFree_113
      · have join_32 : gHide (∀ (z : Int) (ls : Array Slot), z = ((ixK S f k : Nat) : Int) → lv_has ls 6 [(4, .int (iI ((k : Nat) : Int))), (3, .int (iI (atK S f t k))), (0, .ref (am 0)), (1, .int (iI t)), (2, .int (iI (bZ f)))] → W P_ l e_ (gR 4 0 0) s M_ ([.ref (am 0), .int (iI t), .int (iI (bZ f))] : List Value).toArray bl mt_ c_ s.heap [] 0 0 (MQ bl (QcRead (iI (bZ (frK S f t (gN S))))) ([.ref (am 0), .int (iI t), .int (iI (bZ f))] : List Value).toArray s 0 0 (fun _ => False)) (F0 M_ 32 ls [.int (iI z)])) := by
          intro z ls e_z hl
          subst e_z
          have hl : lv_has ls 6 [(4, .int (iI ((k : Nat) : Int))), (3, .int (iI (atK S f t k))), (0, .ref (am 0)), (1, .int (iI t)), (2, .int (iI (bZ f)))] := hl
          have hix : ixK S f k < gN S := by unfold ixK; split <;> omega
          refine g_istore (lv' := [(5, .int (iI ((ixK S f k : Nat) : Int))), (4, .int (iI ((k : Nat) : Int))), (3, .int (iI (atK S f t k))), (0, .ref (am 0)), (1, .int (iI t)), (2, .int (iI (bZ f)))]) X dX3_isFree_32 hl (by decide) rfl (fun ls hl => ?_)
          refine g_aload_n X dX3_isFree_34 rfl hl 3 rfl ?_
          refine g_iload X dX3_isFree_35 hl 0 rfl ?_
          have join_46 : gHide (∀ (z : Int) (ls : Array Slot), z = (if f = true then 0 else 1) → lv_has ls 6 [(5, .int (iI ((ixK S f k : Nat) : Int))), (4, .int (iI ((k : Nat) : Int))), (3, .int (iI (atK S f t k))), (0, .ref (am 0)), (1, .int (iI t)), (2, .int (iI (bZ f)))] → W P_ l e_ (gR 4 0 0) s M_ ([.ref (am 0), .int (iI t), .int (iI (bZ f))] : List Value).toArray bl mt_ c_ s.heap [] 0 0 (MQ bl (QcRead (iI (bZ (frK S f t (gN S))))) ([.ref (am 0), .int (iI t), .int (iI (bZ f))] : List Value).toArray s 0 0 (fun _ => False)) (F0 M_ 46 ls [.int (iI z), .int (iI ((ixK S f k : Nat) : Int)), .ref (am 0)])) := by
            intro z ls e_z hl
            subst e_z
            have hl : lv_has ls 6 [(5, .int (iI ((ixK S f k : Nat) : Int))), (4, .int (iI ((k : Nat) : Int))), (3, .int (iI (atK S f t k))), (0, .ref (am 0)), (1, .int (iI t)), (2, .int (iI (bZ f)))] := hl
            refine g_iload_n X dX3_isFree_46 rfl hl 2 rfl ?_
            refine g_iconst X dX3_isFree_47 ?_
            refine g_pV X hk (As := [.int (iI ((ixK S f k : Nat) : Int)), .int (iI (if f = true then 0 else 1)), .int (iI (atK S f t k)), .int (iI 0)]) (rest := []) rfl (MP.O hM) (m_isGreenF l E am S M s.heap hM hI hR (ixK S f k) hix (if f = true then 0 else 1) (atK S f t k) (by omega) hMI (hL _ hix) (hPl _ hix)) 4 (lw_V q787 q789 qs30 q48 q790) (by decide +kernel) ⟨⟨Nat.le_of_ble_eq_true rfl, Nat.le_of_ble_eq_true rfl⟩, Nat.le_of_ble_eq_true rfl, Nat.le_of_ble_eq_true rfl⟩ rfl rfl hl.1 (Nat.le_of_ble_eq_true rfl) dX3_isFree_48 ?_
            have h51 := bZ_le (gAt S (ixK S f k) (if f = true then 0 else 1) (atK S f t k))
            refine g_if_ne X dX3_isFree_51 (tgt := 56) (by decide) (by omega) (fun c51 => ?_) (fun c51 => ?_)
            · have join_104 : gHide (∀ (z : Int) (ls : Array Slot), z = (lkK S f k) → (frK S f t (k + 1) = true) → lv_has ls 6 [(5, .int (iI ((ixK S f k : Nat) : Int))), (4, .int (iI ((k : Nat) : Int))), (3, .int (iI (atK S f t k))), (0, .ref (am 0)), (1, .int (iI t)), (2, .int (iI (bZ f)))] → W P_ l e_ (gR 4 0 0) s M_ ([.ref (am 0), .int (iI t), .int (iI (bZ f))] : List Value).toArray bl mt_ c_ s.heap [] 0 0 (MQ bl (QcRead (iI (bZ (frK S f t (gN S))))) ([.ref (am 0), .int (iI t), .int (iI (bZ f))] : List Value).toArray s 0 0 (fun _ => False)) (F0 M_ 104 ls [.int (iI z), .int (iI (atK S f t k))])) := by
                intro z ls e_z hA2 hl
                subst e_z
                have hl : lv_has ls 6 [(5, .int (iI ((ixK S f k : Nat) : Int))), (4, .int (iI ((k : Nat) : Int))), (3, .int (iI (atK S f t k))), (0, .ref (am 0)), (1, .int (iI t)), (2, .int (iI (bZ f)))] := hl
                have hlk : lkK S f k = lkK S f k := rfl
                refine g_iadd X dX3_isFree_104 ?_
                refine g_istore_n (lv' := [(3, .int (iI ((atK S f t k) + (lkK S f k)))), (5, .int (iI ((ixK S f k : Nat) : Int))), (4, .int (iI ((k : Nat) : Int))), (0, .ref (am 0)), (1, .int (iI t)), (2, .int (iI (bZ f)))]) X dX3_isFree_105 rfl hl (by decide) rfl (fun ls hl => ?_)
                refine g_iinc (lv' := [(4, .int (iI (((k : Nat) : Int) + 1))), (3, .int (iI ((atK S f t k) + (lkK S f k)))), (5, .int (iI ((ixK S f k : Nat) : Int))), (0, .ref (am 0)), (1, .int (iI t)), (2, .int (iI (bZ f)))]) X dX3_isFree_106 hl (k := 2) rfl (by decide) rfl (fun ls hl => ?_)
                refine g_goto X dX3_isFree_109 (tgt := 5) (by decide) ?_
                exact ih_5.out (k + 1) (((k : Nat) : Int) + 1) ((atK S f t k) + (lkK S f k)) (by omega) (by omega) (by show _ = atK S f t k + lkK S f k; rw [hlk]) (by omega) hA2 _ (lv_sub hl [0, 1, 3, 4, 5] rfl)
              have hA2 : frK S f t (k + 1) = true := by grind [frK, bZ]
              refine g_iload_n X dX3_isFree_56 rfl hl 2 rfl ?_
              refine g_iload_n X dX3_isFree_57 rfl hl 5 rfl ?_
              refine g_if_eq X dX3_isFree_58 (tgt := 82) (by decide) (by omega) (fun c58 => ?_) (fun c58 => ?_)
              · refine g_iload_n X dX3_isFree_82 rfl hl 5 rfl ?_
                refine g_if_ne X dX3_isFree_83 (tgt := 103) (by decide) (by omega) (fun c83 => ?_) (fun c83 => ?_)
                · have hZ : (0 : Int) = lkK S f k := by
                    unfold lkK
                    have h7 : ixK S f k = if f = true then k else gN S - 1 - k := rfl
                    rw [if_neg]
                    intro h8
                    cases f
                    · have : ixK S false k = gN S - 1 - k := rfl
                      grind [bZ]
                    · grind [bZ]
                  refine g_iconst X dX3_isFree_103 ?_
                  exact join_104.out 0 _ (hZ) hA2 (lv_sub hl [0, 1, 2, 3, 4, 5] rfl)
                · refine g_iload X dX3_isFree_86 hl 0 rfl ?_
                  refine g_if_le X dX3_isFree_88 (tgt := 103) (by decide) (by omega) (fun c88 => ?_) (fun c88 => ?_)
                  · have hZ : (0 : Int) = lkK S f k := by
                      unfold lkK
                      have h7 : ixK S f k = if f = true then k else gN S - 1 - k := rfl
                      rw [if_neg]
                      intro h8
                      cases f
                      · have : ixK S false k = gN S - 1 - k := rfl
                        grind [bZ]
                      · grind [bZ]
                    refine g_iconst X dX3_isFree_103 ?_
                    exact join_104.out 0 _ (hZ) hA2 (lv_sub hl [0, 1, 2, 3, 4, 5] rfl)
                  · refine g_aload_n X dX3_isFree_91 rfl hl 3 rfl ?_
                    refine g_get X hk (v := .ref (am 9)) in_X3 rfl (MP.O hM) 9 (by decide) q610 (rfl) dX3_isFree_92 ?_
                    refine g_iload X dX3_isFree_95 hl 0 rfl ?_
                    refine g_iconst X dX3_isFree_97 ?_
                    refine g_isub X dX3_isFree_98 ?_
                    refine g_ialdv X hk (j := (ixK S f k - 1)) (n := 4) (f := (M 9)) (v := (gLnk S (ixK S f k - 1))) (MP.I hM 9 rfl) (by omega) (by omega) (MR.lnk hR (by omega)) dX3_isFree_99 ?_
                    have hZ : gLnk S (ixK S f k - 1) = lkK S f k := by
                      have hff : f = false := by grind [bZ]
                      have h7 : ixK S f k = gN S - 1 - k := by unfold ixK; rw [hff]; rfl
                      unfold lkK
                      rw [if_pos (by omega), h7, show gN S - 1 - k - 1 = gN S - 2 - k by omega, hff]
                      rfl
                    refine g_goto X dX3_isFree_100 (tgt := 104) (by decide) ?_
                    exact join_104.out (gLnk S (ixK S f k - 1)) _ (hZ) hA2 (lv_sub hl [0, 1, 2, 3, 4, 5] rfl)
              · refine g_iload X dX3_isFree_61 hl 1 rfl ?_
                refine g_aload_n X dX3_isFree_63 rfl hl 3 rfl ?_
                refine g_get X hk (v := .int (iI (((gN S) : Nat) : Int))) in_X3 rfl (MP.O hM) 1 (by decide) q602 (sI (MR.n hR)) dX3_isFree_64 ?_
                refine g_iconst X dX3_isFree_67 ?_
                refine g_isub X dX3_isFree_68 ?_
                refine g_icmp_ge X dX3_isFree_69 (tgt := 82) (by decide) (by omega) (fun c69 => ?_) (fun c69 => ?_)
                · refine g_iload_n X dX3_isFree_82 rfl hl 5 rfl ?_
                  refine g_if_ne X dX3_isFree_83 (tgt := 103) (by decide) (by omega) (fun c83 => ?_) (fun c83 => ?_)
                  · have hZ : (0 : Int) = lkK S f k := by
                      unfold lkK
                      have h7 : ixK S f k = if f = true then k else gN S - 1 - k := rfl
                      rw [if_neg]
                      intro h8
                      cases f
                      · have : ixK S false k = gN S - 1 - k := rfl
                        grind [bZ]
                      · grind [bZ]
                    refine g_iconst X dX3_isFree_103 ?_
                    exact join_104.out 0 _ (hZ) hA2 (lv_sub hl [0, 1, 2, 3, 4, 5] rfl)
                  · refine g_iload X dX3_isFree_86 hl 0 rfl ?_
                    refine g_if_le X dX3_isFree_88 (tgt := 103) (by decide) (by omega) (fun c88 => ?_) (fun c88 => ?_)
                    · have hZ : (0 : Int) = lkK S f k := by
                        unfold lkK
                        have h7 : ixK S f k = if f = true then k else gN S - 1 - k := rfl
                        rw [if_neg]
                        intro h8
                        cases f
                        · have : ixK S false k = gN S - 1 - k := rfl
                          grind [bZ]
                        · grind [bZ]
                      refine g_iconst X dX3_isFree_103 ?_
                      exact join_104.out 0 _ (hZ) hA2 (lv_sub hl [0, 1, 2, 3, 4, 5] rfl)
                    · refine g_aload_n X dX3_isFree_91 rfl hl 3 rfl ?_
                      refine g_get X hk (v := .ref (am 9)) in_X3 rfl (MP.O hM) 9 (by decide) q610 (rfl) dX3_isFree_92 ?_
                      refine g_iload X dX3_isFree_95 hl 0 rfl ?_
                      refine g_iconst X dX3_isFree_97 ?_
                      refine g_isub X dX3_isFree_98 ?_
                      refine g_ialdv X hk (j := (ixK S f k - 1)) (n := 4) (f := (M 9)) (v := (gLnk S (ixK S f k - 1))) (MP.I hM 9 rfl) (by omega) (by omega) (MR.lnk hR (by omega)) dX3_isFree_99 ?_
                      have hZ : gLnk S (ixK S f k - 1) = lkK S f k := by
                        have hff : f = false := by grind [bZ]
                        have h7 : ixK S f k = gN S - 1 - k := by unfold ixK; rw [hff]; rfl
                        unfold lkK
                        rw [if_pos (by omega), h7, show gN S - 1 - k - 1 = gN S - 2 - k by omega, hff]
                        rfl
                      refine g_goto X dX3_isFree_100 (tgt := 104) (by decide) ?_
                      exact join_104.out (gLnk S (ixK S f k - 1)) _ (hZ) hA2 (lv_sub hl [0, 1, 2, 3, 4, 5] rfl)
                · refine g_aload_n X dX3_isFree_72 rfl hl 3 rfl ?_
                  refine g_get X hk (v := .ref (am 9)) in_X3 rfl (MP.O hM) 9 (by decide) q610 (rfl) dX3_isFree_73 ?_
                  refine g_iload X dX3_isFree_76 hl 1 rfl ?_
                  refine g_ialdv X hk (j := k) (n := 4) (f := (M 9)) (v := (gLnk S k)) (MP.I hM 9 rfl) (rfl) (by omega) (MR.lnk hR (by omega)) dX3_isFree_78 ?_
                  have hZ : gLnk S k = lkK S f k := by unfold lkK; rw [if_pos (by omega), if_pos (by grind [bZ])]
                  refine g_goto X dX3_isFree_79 (tgt := 104) (by decide) ?_
                  exact join_104.out (gLnk S k) _ (hZ) hA2 (lv_sub hl [0, 1, 2, 3, 4, 5] rfl)
            · have hN : frK S f t (k + 1) = false := by grind [frK, bZ]
              refine g_iconst X dX3_isFree_54 ?_
              exact g_zretP X (by first | exact bZ_le _ | omega) (by rw [show gN S = (k + 1) + (gN S - (k + 1)) by omega, hst _ _ hN]; rfl) dX3_isFree_55
          refine g_iload_n X dX3_isFree_37 rfl hl 5 rfl ?_
          refine g_if_eq X dX3_isFree_38 (tgt := 45) (by decide) (by omega) (fun c38 => ?_) (fun c38 => ?_)
          · refine g_iconst X dX3_isFree_45 ?_
            exact join_46.out 1 _ (by grind [bZ]) (lv_sub hl [0, 1, 2, 3, 4, 5] rfl)
          · refine g_iconst X dX3_isFree_41 ?_
            refine g_goto X dX3_isFree_42 (tgt := 46) (by decide) ?_
            exact join_46.out 0 _ (by grind [bZ]) (lv_sub hl [0, 1, 2, 3, 4, 5] rfl)
        refine g_iload_n X dX3_isFree_14 rfl hl 4 rfl ?_
        refine g_if_eq X dX3_isFree_15 (tgt := 23) (by decide) (by omega) (fun c15 => ?_) (fun c15 => ?_)
        · refine g_aload_n X dX3_isFree_23 rfl hl 2 rfl ?_
          refine g_get X hk (v := .int (iI (((gN S) : Nat) : Int))) in_X3 rfl (MP.O hM) 1 (by decide) q602 (sI (MR.n hR)) dX3_isFree_24 ?_
          refine g_iconst X dX3_isFree_27 ?_
          refine g_isub X dX3_isFree_28 ?_
          refine g_iload X dX3_isFree_29 hl 0 rfl ?_
          refine g_isub X dX3_isFree_31 ?_
          exact join_32.out (((((gN S) : Nat) : Int) - 1) - ((k : Nat) : Int)) _ (by unfold ixK; grind [bZ]) (lv_sub hl [0, 1, 2, 3, 4] rfl)
        · refine g_iload X dX3_isFree_18 hl 0 rfl ?_
          refine g_goto X dX3_isFree_20 (tgt := 32) (by decide) ?_
          exact join_32.out ((k : Nat) : Int) _ (by unfold ixK; grind [bZ]) (lv_sub hl [0, 1, 2, 3, 4] rfl)
  exact loop_5.out (gN S + 1) 0 0 t (by omega) (rfl) (rfl) (by omega) rfl _ (lv_sub hl [0, 1, 2, 3, 4] rfl)
set_option maxHeartbeats 4000000 in
theorem m_bandOf (l : Launch) (E : EP) (am : Nat → Nat) (S : GS) (M : MS) (H : Heap) (hM : MP E am M H) (hI : gI S) (hR : MR S M) (f : Bool) (hMI : mI M) (hL : ∀ j, j < gN S → 0 ≤ lft S j) (hPl : ∀ j, j < gN S → mPl S M j) : gP l E yX3_bandOf cX3_bandOf 4 .int 5 H [.ref (am 0), .int (iI (bZ f))] (bnd S f) := by
  refine g_met (plainFor_of_name (by decide)) (Nat.le_of_ble_eq_true rfl) (fun P_ e_ s M_ bl mt_ c_ ls X _ hk hh hl => ?_)
  subst hh
  have X : gX P_ s M_ mt_ c_ cX3_bandOf 4 ([.ref (am 0), .int (iI (bZ f))] : List Value).toArray RX3 (some .int) := X
  have hl : lv_has ls 4 [(0, .ref (am 0)), (1, .int (iI (bZ f)))] := hl
  have hn5 := hI.1.1
  have hc := hI.2.1
  refine g_iconst X dX3_bandOf_0 ?_
  refine g_istore_n (lv' := [(2, .int (iI 0)), (0, .ref (am 0)), (1, .int (iI (bZ f)))]) X dX3_bandOf_1 rfl hl (by decide) rfl (fun ls hl => ?_)
  refine g_iconst X dX3_bandOf_2 ?_
  refine g_istore_n (lv' := [(3, .int (iI 0)), (2, .int (iI 0)), (0, .ref (am 0)), (1, .int (iI (bZ f)))]) X dX3_bandOf_3 rfl hl (by decide) rfl (fun ls hl => ?_)
  have loop_4 : gHide (∀ (n_ : Nat) (k : Nat) (v3 : Int) (v2 : Int), (gCyc S).toNat + 1 ≤ k + n_ → v3 = ((k : Nat) : Int) → v2 = (bnK S f k) → (k ≤ (gCyc S).toNat) → ∀ (ls : Array Slot), lv_has ls 4 [(3, .int (iI v3)), (2, .int (iI v2)), (0, .ref (am 0)), (1, .int (iI (bZ f)))] → W P_ l e_ (gR 5 0 0) s M_ ([.ref (am 0), .int (iI (bZ f))] : List Value).toArray bl mt_ c_ s.heap [] 0 0 (MQ bl (QcRead (iI (bnd S f))) ([.ref (am 0), .int (iI (bZ f))] : List Value).toArray s 0 0 (fun _ => False)) (F0 M_ 4 ls [])) := by
    intro n_
    induction n_ with
    | zero => intro k v3 v2 hb_ e_v3 e_v2 hkb ls hl; exact absurd hb_ (by omega)
    | succ n_ ih_4 =>
      replace ih_4 := gHide.mk ih_4
      intro k v3 v2 hb_ e_v3 e_v2 hkb ls hl
      subst e_v3
      subst e_v2
      have hl : lv_has ls 4 [(3, .int (iI ((k : Nat) : Int))), (2, .int (iI (bnK S f k))), (0, .ref (am 0)), (1, .int (iI (bZ f)))] := hl
      refine g_iload_n X dX3_bandOf_4 rfl hl 0 rfl ?_
      refine g_aload_n X dX3_bandOf_5 rfl hl 2 rfl ?_
      refine g_get X hk (v := .int (iI (gCyc S))) in_X3 rfl (MP.O hM) 2 (by decide) q603 (sI (MR.cyc hR)) dX3_bandOf_6 ?_
      refine g_icmp_ge X dX3_bandOf_9 (tgt := 35) (by decide) (by omega) (fun c9 => ?_) (fun c9 => ?_)
      · refine g_iload_n X dX3_bandOf_35 rfl hl 1 rfl ?_
        exact g_iretP X (by rw [show k = (gCyc S).toNat by omega]; rfl) dX3_bandOf_36
      · refine g_iload_n X dX3_bandOf_12 rfl hl 1 rfl ?_
        refine g_aload_n X dX3_bandOf_13 rfl hl 2 rfl ?_
        refine g_iload_n X dX3_bandOf_14 rfl hl 0 rfl ?_
        refine g_iload_n X dX3_bandOf_15 rfl hl 3 rfl ?_
        refine g_pV X hk (As := [.int (iI ((k : Nat) : Int)), .int (iI (bZ f))]) (rest := [.int (iI (bnK S f k))]) rfl (MP.O hM) (m_isFree l E am S M s.heap hM hI hR ((k : Nat) : Int) (by omega) f hMI hL hPl) 2 (lw_V q783 q785 qs29 q48 q786) (by decide +kernel) ⟨⟨Nat.le_of_ble_eq_true rfl, Nat.le_of_ble_eq_true rfl⟩, Nat.le_of_ble_eq_true rfl, Nat.le_of_ble_eq_true rfl⟩ rfl rfl hl.1 (Nat.le_of_ble_eq_true rfl) dX3_bandOf_16 ?_
        have h19 := bZ_le (frK S f ((k : Nat) : Int) (gN S))
        refine g_if_eq X dX3_bandOf_19 (tgt := 26) (by decide) (by omega) (fun c19 => ?_) (fun c19 => ?_)
        · refine g_iconst X dX3_bandOf_26 ?_
          refine g_iadd X dX3_bandOf_27 ?_
          refine g_istore_n (lv' := [(2, .int (iI ((bnK S f k) + 0))), (3, .int (iI ((k : Nat) : Int))), (0, .ref (am 0)), (1, .int (iI (bZ f)))]) X dX3_bandOf_28 rfl hl (by decide) rfl (fun ls hl => ?_)
          refine g_iinc (lv' := [(3, .int (iI (((k : Nat) : Int) + 1))), (2, .int (iI ((bnK S f k) + 0))), (0, .ref (am 0)), (1, .int (iI (bZ f)))]) X dX3_bandOf_29 hl (k := 1) rfl (by decide) rfl (fun ls hl => ?_)
          refine g_goto X dX3_bandOf_32 (tgt := 4) (by decide) ?_
          exact ih_4.out (k + 1) (((k : Nat) : Int) + 1) ((bnK S f k) + 0) (by omega) (by omega) (by show _ = bnK S f k + bZ (frK S f (k : Int) (gN S)); grind [bZ]) (by omega) _ (lv_sub hl [0, 1, 2, 3] rfl)
        · refine g_iconst X dX3_bandOf_22 ?_
          refine g_goto X dX3_bandOf_23 (tgt := 27) (by decide) ?_
          refine g_iadd X dX3_bandOf_27 ?_
          refine g_istore_n (lv' := [(2, .int (iI ((bnK S f k) + 1))), (3, .int (iI ((k : Nat) : Int))), (0, .ref (am 0)), (1, .int (iI (bZ f)))]) X dX3_bandOf_28 rfl hl (by decide) rfl (fun ls hl => ?_)
          refine g_iinc (lv' := [(3, .int (iI (((k : Nat) : Int) + 1))), (2, .int (iI ((bnK S f k) + 1))), (0, .ref (am 0)), (1, .int (iI (bZ f)))]) X dX3_bandOf_29 hl (k := 1) rfl (by decide) rfl (fun ls hl => ?_)
          refine g_goto X dX3_bandOf_32 (tgt := 4) (by decide) ?_
          exact ih_4.out (k + 1) (((k : Nat) : Int) + 1) ((bnK S f k) + 1) (by omega) (by omega) (by show _ = bnK S f k + bZ (frK S f (k : Int) (gN S)); grind [bZ]) (by omega) _ (lv_sub hl [0, 1, 2, 3] rfl)
  exact loop_4.out ((gCyc S).toNat + 1) 0 0 0 (by omega) (rfl) (rfl) (by omega) _ (lv_sub hl [0, 1, 2, 3] rfl)
set_option maxHeartbeats 4000000 in
theorem m_bands (l : Launch) (E : EP) (am : Nat → Nat) (S : GS) (M : MS) (H : Heap) (hM : MP E am M H) (hI : gI S) (hR : MR S M) (hMI : mI M) (hL : ∀ j, j < gN S → 0 ≤ lft S j) (hPl : ∀ j, j < gN S → mPl S M j) : gP l E yX3_bands cX3_bands 1 .int 6 H [.ref (am 0)] (bns S) := by
  refine g_met (plainFor_of_name (by decide)) (Nat.le_of_ble_eq_true rfl) (fun P_ e_ s M_ bl mt_ c_ ls X _ hk hh hl => ?_)
  subst hh
  have X : gX P_ s M_ mt_ c_ cX3_bands 1 ([.ref (am 0)] : List Value).toArray RX3 (some .int) := X
  have hl : lv_has ls 1 [(0, .ref (am 0))] := hl
  refine g_aload_n X dX3_bands_0 rfl hl 0 rfl ?_
  refine g_iconst X dX3_bands_1 ?_
  refine g_pV X hk (As := [.int (iI 1)]) (rest := []) rfl (MP.O hM) (m_bandOf l E am S M s.heap hM hI hR true hMI hL hPl) 1 (lw_V q779 q781 qs28 q48 q782) (by decide +kernel) ⟨⟨Nat.le_of_ble_eq_true rfl, Nat.le_of_ble_eq_true rfl⟩, Nat.le_of_ble_eq_true rfl, Nat.le_of_ble_eq_true rfl⟩ rfl rfl hl.1 (Nat.le_of_ble_eq_true rfl) dX3_bands_2 ?_
  refine g_aload_n X dX3_bands_5 rfl hl 0 rfl ?_
  refine g_iconst X dX3_bands_6 ?_
  refine g_pV X hk (As := [.int (iI 0)]) (rest := [.int (iI (bnd S true))]) rfl (MP.O hM) (m_bandOf l E am S M s.heap hM hI hR false hMI hL hPl) 1 (lw_V q779 q781 qs28 q48 q782) (by decide +kernel) ⟨⟨Nat.le_of_ble_eq_true rfl, Nat.le_of_ble_eq_true rfl⟩, Nat.le_of_ble_eq_true rfl, Nat.le_of_ble_eq_true rfl⟩ rfl rfl hl.1 (Nat.le_of_ble_eq_true rfl) dX3_bands_7 ?_
  refine g_iadd X dX3_bands_10 ?_
  exact g_iretP X (rfl) dX3_bands_11
