/-! the corridor begins -/
abbrev xNew : List Value := [.null, .int (iI 0), .int (iI 0), .int (iI 0), .int (iI 0), .int (iI 0)]
theorem cAd_W {n n1 : Nat} {ad : Nat → Nat → Nat} {H : Heap} : ∀ k j, gv n1 k j → gW n ad H (cAd (ad 6 0) H.size k j) := by
  intro k j hv
  by_cases h6 : k = 6
  · have hj : j = 0 := by rcases hv with h | h <;> omega
    subst h6
    exact Or.inl ⟨6, 0, gv_6, rfl⟩
  · refine Or.inr ?_
    unfold cAd
    rw [if_neg h6]
    split
    · exact Nat.le_refl _
    · omega
theorem cAd_C {n1 a : Nat} {H : Heap} : ∀ k j, gv n1 k j → cW a H (cAd a H.size k j) := by
  intro k j hv
  by_cases h6 : k = 6
  · subst h6
    exact Or.inl rfl
  · refine Or.inr ?_
    unfold cAd
    rw [if_neg h6]
    split
    · exact Nat.le_refl _
    · omega
theorem cW_gW {n : Nat} {ad : Nat → Nat → Nat} {H : Heap} : ∀ q, cW (ad 6 0) H q → gW n ad H q := by
  rintro q (h | h)
  · exact Or.inl ⟨6, 0, gv_6, h⟩
  · exact Or.inr h
set_option maxHeartbeats 4000000 in
theorem p_begin (l : Launch) (E : EP) (hst : l.stackTraces = false) (ad : Nat → Nat → Nat) (S : GS) (n c : Int) (H : Heap) (hP : GP E ad S H) (hI : gI S) (hn : -2147483648 ≤ n ∧ n ≤ 2147483647) (hc : -2147483648 ≤ c ∧ c ≤ 2147483647) : gCv l E yX1_begin cX1_begin 3 9 33 510 H [.ref (ad 6 0), .int (iI n), .int (iI c)] (gW (gN S) ad H) (fun H1 => erB n c = 0 ∧ ∃ ad1, GP E ad1 (gBeg n.toNat c) H1 ∧ adW n.toNat (gN S) ad H ad1) (xC (erB n c) [nAr]) := by
  refine g_metX (by decide) (Nat.le_of_ble_eq_true rfl) (fun P_ e_ s M_ bl mt_ c_ ls X hno_ hk hh hl => ?_)
  subst hh
  have X : gX P_ s M_ mt_ c_ cX1_begin 3 ([.ref (ad 6 0), .int (iI n), .int (iI c)] : List Value).toArray RX1 none := X
  have hl : lv_has ls 3 [(0, .ref (ad 6 0)), (1, .int (iI n)), (2, .int (iI c))] := hl
  have hS : va_S (nA s.heap) s.heap s.heap [] := va_S.rf
  have hN0 : eN E ≤ s.heap.size := hk.N
  have hA0_ := GP.lts hP
  have hn5 := hI.1.1
  have hc := hI.2.1
  have join_25 : gHide (∀ (z : Int) (ls : Array Slot), z = (bZ (decide ((2 ≤ n ∧ n ≤ 5) ∧ 30 ≤ c ∧ c ≤ 90))) → lv_has ls 3 [(0, .ref (ad 6 0)), (1, .int (iI n)), (2, .int (iI c))] → W P_ l e_ (gR 9 33 510) s M_ ([.ref (ad 6 0), .int (iI n), .int (iI c)] : List Value).toArray bl mt_ c_ s.heap [] 0 0 (vx_MQ bl (gQv (gW (gN S) ad s.heap) (fun H1 => erB n c = 0 ∧ ∃ ad1, GP E ad1 (gBeg n.toNat c) H1 ∧ adW n.toNat (gN S) ad s.heap ad1)) (gXD (xC (erB n c) [nAr])) ([.ref (ad 6 0), .int (iI n), .int (iI c)] : List Value).toArray s 33 510 (gW (gN S) ad s.heap)) (F0 M_ 25 ls [.int (iI z)])) := by
    intro z ls e_z hl
    subst e_z
    have hl : lv_has ls 3 [(0, .ref (ad 6 0)), (1, .int (iI n)), (2, .int (iI c))] := hl
    have hz25 := bZ_le (decide ((2 ≤ n ∧ n ≤ 5) ∧ 30 ≤ c ∧ c ≤ 90))
    refine (show (bZ (decide ((2 ≤ n ∧ n ≤ 5) ∧ 30 ≤ c ∧ c ≤ 90))) = 0 ∨ (bZ (decide ((2 ≤ n ∧ n ≤ 5) ∧ 30 ≤ c ∧ c ≤ 90))) = 1 by omega).elim (fun z25 => ?_) (fun z25 => ?_)
    · exact g_thxS X hno_ hk (As := [.int (iI (bZ (decide ((2 ≤ n ∧ n ≤ 5) ∧ 30 ≤ c ∧ c ≤ 90))))]) (rest := []) (rq_Argument_t l E hst s.heap (bZ (decide ((2 ≤ n ∧ n ≤ 5) ∧ 30 ≤ c ∧ c ≤ 90))) z25) 1 (lw_S q188 q189 q46 q190) (by decide +kernel) ⟨⟨Nat.le_of_ble_eq_true rfl, Nat.le_of_ble_eq_true rfl⟩, Nat.le_of_ble_eq_true rfl, Nat.le_of_ble_eq_true rfl⟩ rfl rfl hl.1 (Nat.le_of_ble_eq_true rfl) dX1_begin_25 hS (fun q h => Or.inr h) (⟨0, by unfold erB; grind [bZ], rfl⟩) ⟨Nat.le_of_ble_eq_true rfl, Nat.le_of_ble_eq_true rfl⟩
    refine g_callE (g_runS X hk (As := [.int (iI (bZ (decide ((2 ≤ n ∧ n ≤ 5) ∧ 30 ≤ c ∧ c ≤ 90))))]) (rest := []) (rq_Argument l E s.heap (bZ (decide ((2 ≤ n ∧ n ≤ 5) ∧ 30 ≤ c ∧ c ≤ 90))) z25) 1 (lw_S q188 q189 q46 q190) (by decide +kernel) ⟨⟨Nat.le_of_ble_eq_true rfl, Nat.le_of_ble_eq_true rfl⟩, Nat.le_of_ble_eq_true rfl, Nat.le_of_ble_eq_true rfl⟩ rfl rfl hl.1 (Nat.le_of_ble_eq_true rfl) dX1_begin_25) ?_
    have h25 : (2 ≤ n ∧ n ≤ 5) ∧ 30 ≤ c ∧ c ≤ 90 := by grind [bZ]
    have ev1 : n = ((n.toNat : Nat) : Int) := by omega
    rw [ev1] at hl
    have hl : lv_has ls 3 [(0, .ref (ad 6 0)), (1, .int (iI ((n.toNat : Nat) : Int))), (2, .int (iI c))] := hl
    refine g_aload_n X dX1_begin_28 rfl hl 0 rfl ?_
    refine g_iload_n X dX1_begin_29 rfl hl 1 rfl ?_
    refine g_iload_n X dX1_begin_30 rfl hl 2 rfl ?_
    have hS : va_S (gW (gN S) ad s.heap) s.heap s.heap _ := g_ws hS (fun q h => Or.inr h)
    refine g_callv (g_runV X hk (As := [.int (iI ((n.toNat : Nat) : Int)), .int (iI c)]) (rest := []) rfl (GP.X hP) (p_clear l E (ad 6 0) n.toNat c _ _ _ _ _ _ s.heap (GP.X hP) (hP.2.2 6 0 gv_6) (by omega)) 2 (lw_V q66 q68 qs0 q46 q69) (by decide +kernel) ⟨⟨Nat.le_of_ble_eq_true rfl, Nat.le_of_ble_eq_true rfl⟩, Nat.le_of_ble_eq_true rfl, Nat.le_of_ble_eq_true rfl⟩ rfl rfl hl.1 (Nat.le_of_ble_eq_true rfl) dX1_begin_31) hk hS cW_gW (fun z h => h.elim (fun h2 => by rw [h2]; exact hP.2.2 6 0 gv_6) (fun h2 => by omega)) (fun H locs hP_ hk hz_ ho_ hS => ?_)
    obtain ⟨hz2, hP⟩ := hP_
    exact vx_ret (g_vret X hS (⟨by unfold erB; rw [if_pos h25], _, hP, rfl, cAd_W⟩) ⟨Nat.le_of_ble_eq_true rfl, Nat.le_of_ble_eq_true rfl⟩ dX1_begin_34)
  refine g_iload_n X dX1_begin_0 rfl hl 1 rfl ?_
  refine g_iconst X dX1_begin_1 ?_
  refine g_iconst X dX1_begin_2 ?_
  refine g_pS X hk (As := [.int (iI n), .int (iI 2), .int (iI 5)]) (rest := []) (p_inRange l E n 2 5 s.heap (by omega) (by omega) (by omega)) 3 (lw_S q185 q186 q46 q187) (by decide +kernel) ⟨⟨Nat.le_of_ble_eq_true rfl, Nat.le_of_ble_eq_true rfl⟩, Nat.le_of_ble_eq_true rfl, Nat.le_of_ble_eq_true rfl⟩ rfl rfl hl.1 (Nat.le_of_ble_eq_true rfl) dX1_begin_3 ?_
  have h6 := bZ_le (decide (2 ≤ n ∧ n ≤ 5))
  refine g_if_eq X dX1_begin_6 (tgt := 24) (by decide) (by omega) (fun c6 => ?_) (fun c6 => ?_)
  · refine g_iconst X dX1_begin_24 ?_
    exact join_25.out 0 _ (by grind [bZ]) (lv_sub hl [0, 1, 2] rfl)
  · refine g_iload_n X dX1_begin_9 rfl hl 2 rfl ?_
    refine g_bipush X dX1_begin_10 rfl ?_
    refine g_bipush X dX1_begin_12 rfl ?_
    refine g_pS X hk (As := [.int (iI c), .int (iI 30), .int (iI 90)]) (rest := []) (p_inRange l E c 30 90 s.heap (by omega) (by omega) (by omega)) 3 (lw_S q185 q186 q46 q187) (by decide +kernel) ⟨⟨Nat.le_of_ble_eq_true rfl, Nat.le_of_ble_eq_true rfl⟩, Nat.le_of_ble_eq_true rfl, Nat.le_of_ble_eq_true rfl⟩ rfl rfl hl.1 (Nat.le_of_ble_eq_true rfl) dX1_begin_14 ?_
    have h17 := bZ_le (decide (30 ≤ c ∧ c ≤ 90))
    refine g_if_eq X dX1_begin_17 (tgt := 24) (by decide) (by omega) (fun c17 => ?_) (fun c17 => ?_)
    · refine g_iconst X dX1_begin_24 ?_
      exact join_25.out 0 _ (by grind [bZ]) (lv_sub hl [0, 1, 2] rfl)
    · refine g_iconst X dX1_begin_20 ?_
      refine g_goto X dX1_begin_21 (tgt := 25) (by decide) ?_
      exact join_25.out 1 _ (by grind [bZ]) (lv_sub hl [0, 1, 2] rfl)
set_option maxHeartbeats 4000000 in
theorem p_init (l : Launch) (E : EP) (a : Nat) (H : Heap) (hO : ce E a (.inr (0, xNew)) H) (hN : eN E ≤ a) : gMv l E yX1_init cX1_init 1 4 31 490 H [.ref a] (cW a H) (fun H1 => ∃ ad1, GP E ad1 (gBeg 2 60) H1 ∧ ad1 6 0 = a ∧ ∀ k i, gv 2 k i → cW a H (ad1 k i)) := by
  refine g_met (plainFor_of_name (by decide)) (Nat.le_of_ble_eq_true rfl) (fun P_ e_ s M_ bl mt_ c_ ls X hmeth_ hk hh hl => ?_)
  subst hh
  have X : gX P_ s M_ mt_ c_ cX1_init 1 ([.ref a] : List Value).toArray RX1 none := X
  have hl : lv_has ls 1 [(0, .ref a)] := hl
  have hS : va_S (cW a s.heap) s.heap s.heap [] := va_S.rf
  have hN0 : eN E ≤ s.heap.size := hk.N
  refine g_aload_n X dX1_init_0 rfl hl 0 rfl ?_
  refine g_oinit X q63 q64 q65 hl.1 (Nat.le_of_ble_eq_true rfl) dX1_init_1 ⟨Nat.le_of_ble_eq_true rfl, Nat.le_of_ble_eq_true rfl⟩ ?_
  refine g_aload_n X dX1_init_4 rfl hl 0 rfl ?_
  refine g_iconst X dX1_init_5 ?_
  refine g_bipush X dX1_init_6 rfl ?_
  skip
  refine g_callv (g_runV X hk (As := [.int (iI ((2 : Nat) : Int)), .int (iI 60)]) (rest := []) rfl hO (p_clear l E a 2 60 _ _ _ _ _ _ s.heap hO hN (by omega)) 2 (lw_V q66 q68 qs0 q46 q69) (by decide +kernel) ⟨⟨Nat.le_of_ble_eq_true rfl, Nat.le_of_ble_eq_true rfl⟩, Nat.le_of_ble_eq_true rfl, Nat.le_of_ble_eq_true rfl⟩ rfl rfl hl.1 (Nat.le_of_ble_eq_true rfl) dX1_init_8) hk hS (fun z h => h) (fun z h => h.elim (fun h2 => by rw [h2]; exact hN) (fun h2 => by omega)) (fun H locs hP_ hk hz_ ho_ hS => ?_)
  obtain ⟨hz2, hP⟩ := hP_
  exact g_vret X hS (⟨_, hP, rfl, cAd_C⟩) ⟨Nat.le_of_ble_eq_true rfl, Nat.le_of_ble_eq_true rfl⟩ dX1_init_11
