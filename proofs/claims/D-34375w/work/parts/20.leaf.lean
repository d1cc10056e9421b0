/-! leaves: has, inRange, Math -/
theorem p_has (l : Launch) (E : EP) (a b : Int) (H : Heap) : gP l E yX1_has cX1_has 2 .boolean 0 H [.int (iI a), .int (iI b)] (bZ (hasB a b)) := by
  refine g_met (plainFor_of_name (by decide)) (Nat.le_of_ble_eq_true rfl) (fun p e s m below meth c ls X _ hk hh hl => ?_)
  subst hh
  have X : gX p s m meth c cX1_has 2 ([.int (iI a), .int (iI b)] : List Value).toArray RX1 (some .boolean) := X
  have hl : lv_has ls 2 [(0, .int (iI a)), (1, .int (iI b))] := hl
  refine g_iload_n X dX1_has_0 rfl hl 0 rfl ?_
  refine g_iload_n X dX1_has_1 rfl hl 1 rfl ?_
  refine lv_ishr X.1.1 X.1.2.1 dX1_has_2 ?_
  refine g_iconst X dX1_has_3 ?_
  refine lv_iand X.1.1 X.1.2.1 dX1_has_4 ?_
  refine g_iconst X dX1_has_5 ?_
  refine lv_icmp_ne X.1.1 X.1.2.1 dX1_has_6 (tgt := 13) (by decide) (fun c6 => ?_) (fun c6 => ?_)
  · refine g_iconst X dX1_has_13 ?_
    exact g_zretP X (bZ_le _) (by rw [hasB, decide_eq_false c6]; rfl) dX1_has_14
  · refine g_iconst X dX1_has_9 ?_
    refine g_goto X dX1_has_10 (tgt := 14) (by decide) ?_
    exact g_zretP X (bZ_le _) (by rw [hasB, decide_eq_true (by first | exact c6 | exact Classical.not_not.mp c6)]; rfl) dX1_has_14
theorem m_has (l : Launch) (E : EP) (a b : Int) (H : Heap) : gP l E yX3_has cX3_has 2 .boolean 0 H [.int (iI a), .int (iI b)] (bZ (hasB a b)) := by
  refine g_met (plainFor_of_name (by decide)) (Nat.le_of_ble_eq_true rfl) (fun p e s m below meth c ls X _ hk hh hl => ?_)
  subst hh
  have X : gX p s m meth c cX3_has 2 ([.int (iI a), .int (iI b)] : List Value).toArray RX3 (some .boolean) := X
  have hl : lv_has ls 2 [(0, .int (iI a)), (1, .int (iI b))] := hl
  refine g_iload_n X dX3_has_0 rfl hl 0 rfl ?_
  refine g_iload_n X dX3_has_1 rfl hl 1 rfl ?_
  refine lv_ishr X.1.1 X.1.2.1 dX3_has_2 ?_
  refine g_iconst X dX3_has_3 ?_
  refine lv_iand X.1.1 X.1.2.1 dX3_has_4 ?_
  refine g_iconst X dX3_has_5 ?_
  refine lv_icmp_ne X.1.1 X.1.2.1 dX3_has_6 (tgt := 13) (by decide) (fun c6 => ?_) (fun c6 => ?_)
  · refine g_iconst X dX3_has_13 ?_
    exact g_zretP X (bZ_le _) (by rw [hasB, decide_eq_false c6]; rfl) dX3_has_14
  · refine g_iconst X dX3_has_9 ?_
    refine g_goto X dX3_has_10 (tgt := 14) (by decide) ?_
    exact g_zretP X (bZ_le _) (by rw [hasB, decide_eq_true (by first | exact c6 | exact Classical.not_not.mp c6)]; rfl) dX3_has_14
set_option maxHeartbeats 4000000 in
theorem p_inRange (l : Launch) (E : EP) (v a b : Int) (H : Heap) (hv : -2147483648 ≤ v ∧ v ≤ 2147483647) (ha : -2147483648 ≤ a ∧ a ≤ 2147483647) (hb : -2147483648 ≤ b ∧ b ≤ 2147483647) : gP l E yX1_inRange cX1_inRange 3 .boolean 0 H [.int (iI v), .int (iI a), .int (iI b)] (bZ (decide (a ≤ v ∧ v ≤ b))) := by
  refine g_met (plainFor_of_name (by decide)) (Nat.le_of_ble_eq_true rfl) (fun P_ e_ s M_ bl mt_ c_ ls X _ hk hh hl => ?_)
  subst hh
  have X : gX P_ s M_ mt_ c_ cX1_inRange 3 ([.int (iI v), .int (iI a), .int (iI b)] : List Value).toArray RX1 (some .boolean) := X
  have hl : lv_has ls 3 [(0, .int (iI v)), (1, .int (iI a)), (2, .int (iI b))] := hl
  refine g_iload_n X dX1_inRange_0 rfl hl 0 rfl ?_
  refine g_iload_n X dX1_inRange_1 rfl hl 1 rfl ?_
  refine g_icmp_lt X dX1_inRange_2 (tgt := 14) (by decide) (by omega) (fun c2 => ?_) (fun c2 => ?_)
  · refine g_iconst X dX1_inRange_14 ?_
    exact g_zretP X (by first | exact bZ_le _ | omega) (by simp [bZ]; omega) dX1_inRange_15
  · refine g_iload_n X dX1_inRange_5 rfl hl 0 rfl ?_
    refine g_iload_n X dX1_inRange_6 rfl hl 2 rfl ?_
    refine g_icmp_gt X dX1_inRange_7 (tgt := 14) (by decide) (by omega) (fun c7 => ?_) (fun c7 => ?_)
    · refine g_iconst X dX1_inRange_14 ?_
      exact g_zretP X (by first | exact bZ_le _ | omega) (by simp [bZ]; omega) dX1_inRange_15
    · refine g_iconst X dX1_inRange_10 ?_
      refine g_goto X dX1_inRange_11 (tgt := 15) (by decide) ?_
      exact g_zretP X (by first | exact bZ_le _ | omega) (by simp [bZ]; omega) dX1_inRange_15
set_option maxHeartbeats 4000000 in
theorem m_in (l : Launch) (E : EP) (v a b : Int) (H : Heap) (hv : -2147483648 ≤ v ∧ v ≤ 2147483647) (ha : -2147483648 ≤ a ∧ a ≤ 2147483647) (hb : -2147483648 ≤ b ∧ b ≤ 2147483647) : gP l E yX3_in cX3_in 3 .boolean 0 H [.int (iI v), .int (iI a), .int (iI b)] (bZ (decide (a ≤ v ∧ v ≤ b))) := by
  refine g_met (plainFor_of_name (by decide)) (Nat.le_of_ble_eq_true rfl) (fun P_ e_ s M_ bl mt_ c_ ls X _ hk hh hl => ?_)
  subst hh
  have X : gX P_ s M_ mt_ c_ cX3_in 3 ([.int (iI v), .int (iI a), .int (iI b)] : List Value).toArray RX3 (some .boolean) := X
  have hl : lv_has ls 3 [(0, .int (iI v)), (1, .int (iI a)), (2, .int (iI b))] := hl
  refine g_iload_n X dX3_in_0 rfl hl 0 rfl ?_
  refine g_iload_n X dX3_in_1 rfl hl 1 rfl ?_
  refine g_icmp_lt X dX3_in_2 (tgt := 14) (by decide) (by omega) (fun c2 => ?_) (fun c2 => ?_)
  · refine g_iconst X dX3_in_14 ?_
    exact g_zretP X (by first | exact bZ_le _ | omega) (by simp [bZ]; omega) dX3_in_15
  · refine g_iload_n X dX3_in_5 rfl hl 0 rfl ?_
    refine g_iload_n X dX3_in_6 rfl hl 2 rfl ?_
    refine g_icmp_gt X dX3_in_7 (tgt := 14) (by decide) (by omega) (fun c7 => ?_) (fun c7 => ?_)
    · refine g_iconst X dX3_in_14 ?_
      exact g_zretP X (by first | exact bZ_le _ | omega) (by simp [bZ]; omega) dX3_in_15
    · refine g_iconst X dX3_in_10 ?_
      refine g_goto X dX3_in_11 (tgt := 15) (by decide) ?_
      exact g_zretP X (by first | exact bZ_le _ | omega) (by simp [bZ]; omega) dX3_in_15
set_option maxHeartbeats 4000000 in
theorem p_max (l : Launch) (E : EP) (a b : Int) (H : Heap) (ha : -2147483648 ≤ a ∧ a ≤ 2147483647) (hb : -2147483648 ≤ b ∧ b ≤ 2147483647) : gP l E yJ8_max cJ8_max 2 .int 0 H [.int (iI a), .int (iI b)] (max a b) := by
  refine g_met (plainMath (by decide)) (Nat.le_of_ble_eq_true rfl) (fun P_ e_ s M_ bl mt_ c_ ls X _ hk hh hl => ?_)
  subst hh
  have X : gX P_ s M_ mt_ c_ cJ8_max 2 ([.int (iI a), .int (iI b)] : List Value).toArray RJ8 (some .int) := X
  have hl : lv_has ls 2 [(0, .int (iI a)), (1, .int (iI b))] := hl
  refine g_iload_n X dJ8_max_0 rfl hl 0 rfl ?_
  refine g_iload_n X dJ8_max_1 rfl hl 1 rfl ?_
  refine g_icmp_lt X dJ8_max_2 (tgt := 9) (by decide) (by omega) (fun c2 => ?_) (fun c2 => ?_)
  · refine g_iload_n X dJ8_max_9 rfl hl 1 rfl ?_
    exact g_iretP X (by omega) dJ8_max_10
  · refine g_iload_n X dJ8_max_5 rfl hl 0 rfl ?_
    refine g_goto X dJ8_max_6 (tgt := 10) (by decide) ?_
    exact g_iretP X (by omega) dJ8_max_10
set_option maxHeartbeats 4000000 in
theorem p_min (l : Launch) (E : EP) (a b : Int) (H : Heap) (ha : -2147483648 ≤ a ∧ a ≤ 2147483647) (hb : -2147483648 ≤ b ∧ b ≤ 2147483647) : gP l E yJ8_min cJ8_min 2 .int 0 H [.int (iI a), .int (iI b)] (min a b) := by
  refine g_met (plainMath (by decide)) (Nat.le_of_ble_eq_true rfl) (fun P_ e_ s M_ bl mt_ c_ ls X _ hk hh hl => ?_)
  subst hh
  have X : gX P_ s M_ mt_ c_ cJ8_min 2 ([.int (iI a), .int (iI b)] : List Value).toArray RJ8 (some .int) := X
  have hl : lv_has ls 2 [(0, .int (iI a)), (1, .int (iI b))] := hl
  refine g_iload_n X dJ8_min_0 rfl hl 0 rfl ?_
  refine g_iload_n X dJ8_min_1 rfl hl 1 rfl ?_
  refine g_icmp_gt X dJ8_min_2 (tgt := 9) (by decide) (by omega) (fun c2 => ?_) (fun c2 => ?_)
  · refine g_iload_n X dJ8_min_9 rfl hl 1 rfl ?_
    exact g_iretP X (by omega) dJ8_min_10
  · refine g_iload_n X dJ8_min_5 rfl hl 0 rfl ?_
    refine g_goto X dJ8_min_6 (tgt := 10) (by decide) ?_
    exact g_iretP X (by omega) dJ8_min_10
theorem fmod_a (a b : Int) (hb : 0 < b) : a % b = if Int.tmod a b < 0 then Int.tmod a b + b else Int.tmod a b := by
  have h1 := Int.tmod_lt_of_pos a hb
  have h2 : -b < Int.tmod a b := by
    have := Int.lt_tmod_of_pos a hb
    exact this
  have h3 := Int.emod_nonneg a (show b ≠ 0 by omega)
  have h4 := Int.emod_lt_of_pos a hb
  have h5 : Int.tmod a b = a - b * Int.tdiv a b := Int.tmod_def a b
  have h6 : a % b = a - b * (a / b) := Int.emod_def a b
  by_cases h : 0 ≤ a
  · have h7 := Int.tmod_nonneg b h
    rw [if_neg (by omega), Int.tmod_eq_emod_of_nonneg h]
  · by_cases h8 : Int.tmod a b < 0
    · rw [if_pos h8]
      have h9 : b * (a / b - Int.tdiv a b) = Int.tmod a b - a % b := by rw [Int.mul_sub]; omega
      rcases Int.lt_trichotomy (a / b - Int.tdiv a b) (-1) with h10 | h10 | h10
      · have := Int.mul_le_mul_of_nonneg_left (show a / b - Int.tdiv a b ≤ -2 by omega) (show 0 ≤ b by omega)
        omega
      · rw [h10] at h9
        omega
      · have := Int.mul_le_mul_of_nonneg_left (show 0 ≤ a / b - Int.tdiv a b by omega) (show 0 ≤ b by omega)
        omega
    · rw [if_neg h8]
      have h9 : b * (a / b - Int.tdiv a b) = Int.tmod a b - a % b := by rw [Int.mul_sub]; omega
      rcases Int.lt_trichotomy (a / b - Int.tdiv a b) 0 with h10 | h10 | h10
      · have := Int.mul_le_mul_of_nonneg_left (show a / b - Int.tdiv a b ≤ -1 by omega) (show 0 ≤ b by omega)
        omega
      · rw [h10] at h9
        omega
      · have := Int.mul_le_mul_of_nonneg_left (show 1 ≤ a / b - Int.tdiv a b by omega) (show 0 ≤ b by omega)
        omega
theorem p_floorMod (l : Launch) (E : EP) (a b : Int) (H : Heap) (ha : -2147483648 ≤ a ∧ a ≤ 2147483647) (hb : 0 < b ∧ b ≤ 1000000) : gP l E yJ8_floorMod cJ8_floorMod 3 .int 0 H [.int (iI a), .int (iI b)] (a % b) := by
  refine g_met (plainMath (by decide)) (Nat.le_of_ble_eq_true rfl) (fun p e s m below meth c ls X _ hk hh hl => ?_)
  subst hh
  have X : gX p s m meth c cJ8_floorMod 3 ([.int (iI a), .int (iI b)] : List Value).toArray RJ8 (some .int) := X
  have hl : lv_has ls 3 [(0, .int (iI a)), (1, .int (iI b))] := hl
  have hx : iI a ^^^ iI b < 0 ↔ a < 0 := by
    have e1 : (iI a ^^^ iI b).toBitVec.msb = ((iI a).toBitVec.msb ^^ (iI b).toBitVec.msb) := by
      rw [Int32.toBitVec_xor, BitVec.msb_xor]
    have e2 : ∀ x : Int32, x < 0 ↔ x.toBitVec.msb = true := by
      intro x
      rw [Int32.lt_iff_toInt_lt, BitVec.msb_eq_toInt]
      simp
    have e3 : (iI b).toBitVec.msb = false := by
      cases h : (iI b).toBitVec.msb with
      | false => rfl
      | true =>
        have := (e2 _).mpr h
        rw [← iI_0, iI_lt (by omega)] at this
        omega
    rw [e2, e1, e3, Bool.xor_false, ← e2, ← iI_0, iI_lt (by omega)]
  have t1 := Int.tmod_lt_of_pos a hb.1
  have t2 : -b < Int.tmod a b := Int.lt_tmod_of_pos a hb.1
  have t3 := fmod_a a b hb.1
  refine g_iload_n X dJ8_floorMod_0 rfl hl 0 rfl ?_
  refine g_iload_n X dJ8_floorMod_1 rfl hl 1 rfl ?_
  refine g_irem X dJ8_floorMod_2 (by omega) ?_
  refine g_istore_n (lv' := [(2, .int (iI (Int.tmod a b))), (0, .int (iI a)), (1, .int (iI b))]) X dJ8_floorMod_3 rfl hl (by decide) rfl (fun ls hl => ?_)
  refine g_iload_n X dJ8_floorMod_4 rfl hl 1 rfl ?_
  refine g_iload_n X dJ8_floorMod_5 rfl hl 2 rfl ?_
  refine lv_ixor X.1.1 X.1.2.1 dJ8_floorMod_6 ?_
  refine lv_if_ge X.1.1 X.1.2.1 dJ8_floorMod_7 (tgt := 18) (by decide) (fun c7 => ?_) (fun c7 => ?_)
  · have h0 : 0 ≤ a := by
      have := mt hx.mpr (Int32.not_lt.mpr c7)
      omega
    have t4 := Int.tmod_nonneg b h0
    refine g_iload_n X dJ8_floorMod_18 rfl hl 0 rfl ?_
    exact g_iretP X (by rw [t3, if_neg (by omega)]) dJ8_floorMod_19
  · have h0 : a < 0 := by
      by_cases h : a < 0
      · exact h
      · exact absurd (Int32.not_lt.mp (mt hx.mp h)) c7
    have t4 : Int.tmod a b ≤ 0 := by
      have := Int.tmod_nonneg b (show 0 ≤ -a by omega)
      rw [Int.neg_tmod] at this
      omega
    refine g_iload_n X dJ8_floorMod_10 rfl hl 0 rfl ?_
    refine g_if_eq X dJ8_floorMod_11 (tgt := 18) (by decide) (by omega) (fun c11 => ?_) (fun c11 => ?_)
    · refine g_iload_n X dJ8_floorMod_18 rfl hl 0 rfl ?_
      exact g_iretP X (by rw [t3, if_neg (by omega)]) dJ8_floorMod_19
    · refine g_iload_n X dJ8_floorMod_14 rfl hl 0 rfl ?_
      refine g_iload_n X dJ8_floorMod_15 rfl hl 2 rfl ?_
      refine g_iadd X dJ8_floorMod_16 ?_
      exact g_iretP X (by rw [t3, if_pos (by omega)]) dJ8_floorMod_17
