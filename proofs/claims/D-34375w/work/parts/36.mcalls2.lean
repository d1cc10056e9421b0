/-! the reference: its calls that answer out of the plan -/
theorem mPl.Z {S : GS} {M M1 : MS} {j : Nat} (h : mPl S M j) (e : ∀ f i, f ≠ 0 → M1 f i = M f i) : mPl S M1 j := fun p hp => ⟨(e 11 _ (by omega)).trans (h p hp).1, (e 12 _ (by omega)).trans (h p hp).2⟩
theorem mPh_Q {S : GS} {g c : Nat → Int} {M M1 : MS} {j : Nat} {t : Int} {b : Bool} (q : mQ M M1) : mPh S g c M1 j t b = mPh S g c M j t b := by
  have e : ∀ f i, 14 ≤ f → M1 f i = M f i := fun f i hf => q f i (by omega) (by omega) (by omega) (by omega)
  unfold mPh
  have e2 : mcal S M1 j t b = mcal S M j t b := by unfold mcal; rw [e 22 _ (by omega), e 23 _ (by omega)]
  have e3 : ∀ cal, mAdj g M1 j cal = mAdj g M j cal := by intro cal; funext p; unfold mAdj; rw [e 24 _ (by omega), e 25 _ (by omega), e 26 _ (by omega)]
  rw [e2, e3]
/-- breaches, counted by seconds -/
def bsM (S : GS) (j : Nat) : Nat → Int
  | 0 => 0
  | k + 1 => bsM S j k + bZ (brK S j (((k : Int) - gOff S j) % gCyc S) 16)
set_option maxHeartbeats 4000000 in
theorem m_hasPlan (l : Launch) (E : EP) (am : Nat → Nat) (S : GS) (M : MS) (H : Heap) (hM : MP E am M H) (hI : gI S) (hR : MR S M) (hMI : mI M) (j : Int) (hj : -2147483648 ≤ j ∧ j ≤ 2147483647) : gMi l E yX3_hasPlan cX3_hasPlan 2 .boolean 4 0 0 H [.ref (am 0), .int (iI j)] (mW am) (fun z H1 => ∃ M1, MP E am M1 H1 ∧ M1 0 0 = erJ S j ∧ (erJ S j = 0 → z = bZ (decide (0 ≤ lft S j.toNat))) ∧ mQ M M1) := by
  refine g_met (plainFor_of_name (by decide)) (Nat.le_of_ble_eq_true rfl) (fun P_ e_ s M_ bl mt_ c_ ls X hmeth_ hk hh hl => ?_)
  subst hh
  have X : gX P_ s M_ mt_ c_ cX3_hasPlan 2 ([.ref (am 0), .int (iI j)] : List Value).toArray RX3 (some .boolean) := X
  have hl : lv_has ls 2 [(0, .ref (am 0)), (1, .int (iI j))] := hl
  have hS : va_S (mW am) s.heap s.heap [] := va_S.rf
  have hn5 := hI.1.1
  have her : 0 ≤ erJ S j ∧ erJ S j ≤ 1 := by unfold erJ; grind
  have hj0 : erJ S j = 0 → 0 ≤ j ∧ j ≤ (gN S : Int) - 1 := by unfold erJ; grind
  refine g_aload_n X dX3_hasPlan_0 rfl hl 0 rfl ?_
  have join_14 : gHide (∀ (z : Int) (ls : Array Slot), z = (erJ S j) → lv_has ls 2 [(0, .ref (am 0)), (1, .int (iI j))] → W P_ l e_ (gR 4 0 0) s M_ ([.ref (am 0), .int (iI j)] : List Value).toArray bl mt_ c_ s.heap [] 0 0 (MQ bl (gQi (mW am) (fun z H1 => ∃ M1, MP E am M1 H1 ∧ M1 0 0 = erJ S j ∧ (erJ S j = 0 → z = bZ (decide (0 ≤ lft S j.toNat))) ∧ mQ M M1)) ([.ref (am 0), .int (iI j)] : List Value).toArray s 0 0 (mW am)) (F0 M_ 14 ls [.int (iI z), .ref (am 0)])) := by
    intro z ls e_z hl
    subst e_z
    have hl : lv_has ls 2 [(0, .ref (am 0)), (1, .int (iI j))] := hl
    refine g_calli (g_runV X hk (As := [.int (iI (erJ S j))]) (rest := []) rfl (MP.O hM) (m_holds l E am M s.heap hM (erJ S j) (by omega)) 1 (lw_V q694 q696 qs15 q48 q697) (by decide +kernel) ⟨⟨Nat.le_of_ble_eq_true rfl, Nat.le_of_ble_eq_true rfl⟩, Nat.le_of_ble_eq_true rfl, Nat.le_of_ble_eq_true rfl⟩ rfl rfl hl.1 (Nat.le_of_ble_eq_true rfl) dX3_hasPlan_14) hk hS (fun q h => h) (MP.N hM) (fun z_ H locs hP_ hk hz_ ho_ hS => ?_)
    obtain ⟨hz0_, hM⟩ := hP_
    subst hz0_
    obtain ⟨M25, eM25⟩ : ∃ M_ : MS, M_ = mset M 0 0 (erJ S j) := ⟨_, rfl⟩
    rw [← eM25] at hM
    have qM25 : mQ M M25 := by rw [eM25]; exact mset_Q M (Or.inl rfl)
    have tM25 : M25 0 0 = (erJ S j) := by rw [eM25]; exact mset_s _ _ _ _
    have zM25 : ∀ f i, f ≠ 0 → M25 f i = M f i := fun f i hf => by rw [eM25]; exact mset_n _ _ (fun e => hf e.1)
    have hR : MR S M25 := hR.Q qM25
    have hMI : mI M25 := hMI.Q qM25
    have hz9 := bZ_le (decide (erJ S j = 0))
    refine g_if_eq X dX3_hasPlan_17 (tgt := 32) (by decide) (by omega) (fun c17 => ?_) (fun c17 => ?_)
    · refine g_iconst X dX3_hasPlan_32 ?_
      exact g_zret X (by omega) hS (⟨M25, hM, by grind, fun h => by grind [bZ], qM25⟩) ⟨Nat.le_of_ble_eq_true rfl, Nat.le_of_ble_eq_true rfl⟩ dX3_hasPlan_33
    · have hz : erJ S j = 0 := by grind [bZ]
      have hj1 := hj0 hz
      refine g_aload_n X dX3_hasPlan_20 rfl hl 0 rfl ?_
      refine g_iload_n X dX3_hasPlan_21 rfl hl 1 rfl ?_
      have hcj_ := m_isPlanned l E am S M25 H hM hI hR j.toNat (by omega)
      rw [Int.toNat_of_nonneg (show 0 ≤ j by omega)] at hcj_
      refine g_calli (g_runV X hk (As := [.int (iI j)]) (rest := []) rfl (MP.O hM) (hcj_) 1 (lw_V q811 q813 qs34 q48 q814) (by decide +kernel) ⟨⟨Nat.le_of_ble_eq_true rfl, Nat.le_of_ble_eq_true rfl⟩, Nat.le_of_ble_eq_true rfl, Nat.le_of_ble_eq_true rfl⟩ rfl rfl hl.1 (Nat.le_of_ble_eq_true rfl) dX3_hasPlan_22) hk hS (fun q h => h) (MP.N hM) (fun z_ H locs hP_ hk hz_ ho_ hS => ?_)
      obtain ⟨hz0_, hP_⟩ := hP_
      subst hz0_
      obtain ⟨M26, hM, xM26, pM26⟩ := hP_
      have qM26 := xM26.Q
      have tM26 := xM26.t
      have hR : MR S M26 := hR.Q qM26
      have hMI : mI M26 := hMI.Q qM26
      have hap := bZ_le (decide (0 ≤ lft S j.toNat))
      have hPl : mPl S M26 j.toNat := pM26
      refine g_if_eq X dX3_hasPlan_25 (tgt := 32) (by decide) (by omega) (fun c25 => ?_) (fun c25 => ?_)
      · refine g_iconst X dX3_hasPlan_32 ?_
        exact g_zret X (by omega) hS (⟨M26, hM, by grind, fun h => by grind [bZ], (qM25).trans qM26⟩) ⟨Nat.le_of_ble_eq_true rfl, Nat.le_of_ble_eq_true rfl⟩ dX3_hasPlan_33
      · refine g_iconst X dX3_hasPlan_28 ?_
        refine g_goto X dX3_hasPlan_29 (tgt := 33) (by decide) ?_
        exact g_zret X (by omega) hS (⟨M26, hM, by grind, fun h => by grind [bZ], (qM25).trans qM26⟩) ⟨Nat.le_of_ble_eq_true rfl, Nat.le_of_ble_eq_true rfl⟩ dX3_hasPlan_33
  refine g_aload_n X dX3_hasPlan_1 rfl hl 0 rfl ?_
  refine g_iload_n X dX3_hasPlan_2 rfl hl 1 rfl ?_
  refine g_pV X hk (As := [.int (iI j)]) (rest := [.ref (am 0)]) rfl (MP.O hM) (m_isJunction l E am S M s.heap hM hI hR j (by omega)) 1 (lw_V q706 q708 qs17 q48 q709) (by decide +kernel) ⟨⟨Nat.le_of_ble_eq_true rfl, Nat.le_of_ble_eq_true rfl⟩, Nat.le_of_ble_eq_true rfl, Nat.le_of_ble_eq_true rfl⟩ rfl rfl hl.1 (Nat.le_of_ble_eq_true rfl) dX3_hasPlan_3 ?_
  have h6 := bZ_le (decide (0 ≤ j ∧ j ≤ (gN S : Int) - 1))
  refine g_if_eq X dX3_hasPlan_6 (tgt := 13) (by decide) (by omega) (fun c6 => ?_) (fun c6 => ?_)
  · refine g_iconst X dX3_hasPlan_13 ?_
    exact join_14.out 1 _ (by unfold erJ; grind [bZ]) (lv_sub hl [0, 1] rfl)
  · refine g_iconst X dX3_hasPlan_9 ?_
    refine g_goto X dX3_hasPlan_10 (tgt := 14) (by decide) ?_
    exact join_14.out 0 _ (by unfold erJ; grind [bZ]) (lv_sub hl [0, 1] rfl)
set_option maxHeartbeats 4000000 in
theorem m_green (l : Launch) (E : EP) (am : Nat → Nat) (S : GS) (M : MS) (H : Heap) (hM : MP E am M H) (hI : gI S) (hR : MR S M) (hMI : mI M) (j p : Int) (hj : -2147483648 ≤ j ∧ j ≤ 2147483647) (hp : -2147483648 ≤ p ∧ p ≤ 2147483647) : gMi l E yX3_green cX3_green 3 .int 4 0 0 H [.ref (am 0), .int (iI j), .int (iI p)] (mW am) (fun z H1 => ∃ M1, MP E am M1 H1 ∧ M1 0 0 = erG S j p ∧ (erG S j p = 0 → z = grn S j.toNat p.toNat) ∧ mQ M M1) := by
  refine g_met (plainFor_of_name (by decide)) (Nat.le_of_ble_eq_true rfl) (fun P_ e_ s M_ bl mt_ c_ ls X hmeth_ hk hh hl => ?_)
  subst hh
  have X : gX P_ s M_ mt_ c_ cX3_green 3 ([.ref (am 0), .int (iI j), .int (iI p)] : List Value).toArray RX3 (some .int) := X
  have hl : lv_has ls 3 [(0, .ref (am 0)), (1, .int (iI j)), (2, .int (iI p))] := hl
  have hS : va_S (mW am) s.heap s.heap [] := va_S.rf
  have hn5 := hI.1.1
  have her : 0 ≤ erG S j p ∧ erG S j p ≤ 3 := by unfold erG; grind
  have hj0 : erG S j p = 0 → (0 ≤ j ∧ j ≤ (gN S : Int) - 1) ∧ (0 ≤ p ∧ p ≤ (gNp S j.toNat : Int) - 1) := by unfold erG; grind
  have hnp : ∀ i, i < gN S → 1 ≤ gNp S i ∧ gNp S i ≤ 4 := fun i hi => (hI.2.2 i hi).1
  refine g_aload_n X dX3_green_0 rfl hl 0 rfl ?_
  have join_27 : gHide (∀ (Mx : MS) (z : Int) (H : Heap) (locs : List Loc) (ls : Array Slot), z = (erG S j p) → (mQ M Mx) → (MR S Mx) → (mI Mx) → (erG S j p = 0 → mPl S Mx j.toNat) → (kk E s H) → (va_S (mW am) s.heap H locs) → (MP E am Mx H) → lv_has ls 3 [(0, .ref (am 0)), (1, .int (iI j)), (2, .int (iI p))] → W P_ l e_ (gR 4 0 0) s M_ ([.ref (am 0), .int (iI j), .int (iI p)] : List Value).toArray bl mt_ c_ H locs 0 0 (MQ bl (gQi (mW am) (fun z H1 => ∃ M1, MP E am M1 H1 ∧ M1 0 0 = erG S j p ∧ (erG S j p = 0 → z = grn S j.toNat p.toNat) ∧ mQ M M1)) ([.ref (am 0), .int (iI j), .int (iI p)] : List Value).toArray s 0 0 (mW am)) (F0 M_ 27 ls [.int (iI z), .ref (am 0)])) := by
    intro Mx z H locs ls e_z hQ hR hMI hP9 hk hS hM hl
    subst e_z
    have hl : lv_has ls 3 [(0, .ref (am 0)), (1, .int (iI j)), (2, .int (iI p))] := hl
    refine g_calli (g_runV X hk (As := [.int (iI (erG S j p))]) (rest := []) rfl (MP.O hM) (m_holds l E am Mx H hM (erG S j p) (by omega)) 1 (lw_V q694 q696 qs15 q48 q697) (by decide +kernel) ⟨⟨Nat.le_of_ble_eq_true rfl, Nat.le_of_ble_eq_true rfl⟩, Nat.le_of_ble_eq_true rfl, Nat.le_of_ble_eq_true rfl⟩ rfl rfl hl.1 (Nat.le_of_ble_eq_true rfl) dX3_green_27) hk hS (fun q h => h) (MP.N hM) (fun z_ H locs hP_ hk hz_ ho_ hS => ?_)
    obtain ⟨hz0_, hM⟩ := hP_
    subst hz0_
    obtain ⟨M27, eM27⟩ : ∃ M_ : MS, M_ = mset Mx 0 0 (erG S j p) := ⟨_, rfl⟩
    rw [← eM27] at hM
    have qM27 : mQ Mx M27 := by rw [eM27]; exact mset_Q Mx (Or.inl rfl)
    have tM27 : M27 0 0 = (erG S j p) := by rw [eM27]; exact mset_s _ _ _ _
    have zM27 : ∀ f i, f ≠ 0 → M27 f i = Mx f i := fun f i hf => by rw [eM27]; exact mset_n _ _ (fun e => hf e.1)
    have hR : MR S M27 := hR.Q qM27
    have hMI : mI M27 := hMI.Q qM27
    have hz9 := bZ_le (decide (erG S j p = 0))
    refine g_if_eq X dX3_green_30 (tgt := 46) (by decide) (by omega) (fun c30 => ?_) (fun c30 => ?_)
    · refine g_iconst X dX3_green_46 ?_
      exact g_iret X hS (⟨M27, hM, by grind, fun h => by grind [bZ], (hQ).trans qM27⟩) ⟨Nat.le_of_ble_eq_true rfl, Nat.le_of_ble_eq_true rfl⟩ dX3_green_47
    · have hz : erG S j p = 0 := by grind [bZ]
      have hj1 := hj0 hz
      have hnpj := hnp j.toNat (by omega)
      have hPl := hP9 hz
      have hPl : mPl S M27 j.toNat := hPl.Z zM27
      refine g_aload_n X dX3_green_33 rfl hl 0 rfl ?_
      refine g_get X hk (v := .ref (am 11)) in_X3 rfl (MP.O hM) 11 (by decide) q612 (rfl) dX3_green_34 ?_
      refine g_iconst X dX3_green_37 ?_
      refine g_iload_n X dX3_green_38 rfl hl 1 rfl ?_
      refine g_imul X dX3_green_39 ?_
      refine g_iload_n X dX3_green_40 rfl hl 2 rfl ?_
      refine g_iadd X dX3_green_41 ?_
      refine g_ialdv X hk (j := (4 * j.toNat) + p.toNat) (n := 20) (f := (M27 11)) (v := (grn S j.toNat p.toNat)) (MP.I hM 11 rfl) (by omega) (by omega) ((hPl p.toNat (by omega)).1) dX3_green_42 ?_
      refine g_goto X dX3_green_43 (tgt := 47) (by decide) ?_
      exact g_iret X hS (⟨M27, hM, by grind, fun h => by grind [bZ], (hQ).trans qM27⟩) ⟨Nat.le_of_ble_eq_true rfl, Nat.le_of_ble_eq_true rfl⟩ dX3_green_47
  refine g_aload_n X dX3_green_1 rfl hl 0 rfl ?_
  refine g_iload_n X dX3_green_2 rfl hl 1 rfl ?_
  refine g_iload_n X dX3_green_3 rfl hl 2 rfl ?_
  refine g_pV X hk (As := [.int (iI j), .int (iI p)]) (rest := [.ref (am 0)]) rfl (MP.O hM) (m_isPhase l E am S M s.heap hM hI hR j p (by omega) (by omega)) 2 (lw_V q819 q821 qs35 q48 q822) (by decide +kernel) ⟨⟨Nat.le_of_ble_eq_true rfl, Nat.le_of_ble_eq_true rfl⟩, Nat.le_of_ble_eq_true rfl, Nat.le_of_ble_eq_true rfl⟩ rfl rfl hl.1 (Nat.le_of_ble_eq_true rfl) dX3_green_4 ?_
  have h7 := bZ_le (decide ((0 ≤ j ∧ j ≤ (gN S : Int) - 1) ∧ (0 ≤ p ∧ p ≤ (gNp S j.toNat : Int) - 1)))
  refine g_if_ne X dX3_green_7 (tgt := 14) (by decide) (by omega) (fun c7 => ?_) (fun c7 => ?_)
  · have hj1 : (0 ≤ j ∧ j ≤ (gN S : Int) - 1) ∧ (0 ≤ p ∧ p ≤ (gNp S j.toNat : Int) - 1) := by grind [bZ]
    refine g_aload_n X dX3_green_14 rfl hl 0 rfl ?_
    refine g_iload_n X dX3_green_15 rfl hl 1 rfl ?_
    have hcj_ := m_isPlanned l E am S M s.heap hM hI hR j.toNat (by omega)
    rw [Int.toNat_of_nonneg (show 0 ≤ j by omega)] at hcj_
    refine g_calli (g_runV X hk (As := [.int (iI j)]) (rest := [.ref (am 0)]) rfl (MP.O hM) (hcj_) 1 (lw_V q811 q813 qs34 q48 q814) (by decide +kernel) ⟨⟨Nat.le_of_ble_eq_true rfl, Nat.le_of_ble_eq_true rfl⟩, Nat.le_of_ble_eq_true rfl, Nat.le_of_ble_eq_true rfl⟩ rfl rfl hl.1 (Nat.le_of_ble_eq_true rfl) dX3_green_16) hk hS (fun q h => h) (MP.N hM) (fun z_ H locs hP_ hk hz_ ho_ hS => ?_)
    obtain ⟨hz0_, hP_⟩ := hP_
    subst hz0_
    obtain ⟨M28, hM, xM28, pM28⟩ := hP_
    have qM28 := xM28.Q
    have tM28 := xM28.t
    have hR : MR S M28 := hR.Q qM28
    have hMI : mI M28 := hMI.Q qM28
    have hap := bZ_le (decide (0 ≤ lft S j.toNat))
    have hPl : mPl S M28 j.toNat := pM28
    refine g_if_eq X dX3_green_19 (tgt := 26) (by decide) (by omega) (fun c19 => ?_) (fun c19 => ?_)
    · refine g_iconst X dX3_green_26 ?_
      exact join_27.out M28 2 H locs _ (by unfold erG; grind [bZ]) qM28 hR hMI (fun h => by first | exact hPl | (exfalso; revert h; unfold erG; grind [bZ])) hk hS hM (lv_sub hl [0, 1, 2] rfl)
    · refine g_iconst X dX3_green_22 ?_
      refine g_goto X dX3_green_23 (tgt := 27) (by decide) ?_
      exact join_27.out M28 0 H locs _ (by unfold erG; grind [bZ]) qM28 hR hMI (fun h => by first | exact hPl | (exfalso; revert h; unfold erG; grind [bZ])) hk hS hM (lv_sub hl [0, 1, 2] rfl)
  · refine g_iconst X dX3_green_10 ?_
    refine g_goto X dX3_green_11 (tgt := 27) (by decide) ?_
    exact join_27.out M 1 s.heap [] _ (by unfold erG; grind [bZ]) (mQ.rf M) hR hMI (fun h => by first | exact hPl | (exfalso; revert h; unfold erG; grind [bZ])) hk hS hM (lv_sub hl [0, 1, 2] rfl)
set_option maxHeartbeats 4000000 in
theorem m_clearing (l : Launch) (E : EP) (am : Nat → Nat) (S : GS) (M : MS) (H : Heap) (hM : MP E am M H) (hI : gI S) (hR : MR S M) (hMI : mI M) (j p : Int) (hj : -2147483648 ≤ j ∧ j ≤ 2147483647) (hp : -2147483648 ≤ p ∧ p ≤ 2147483647) : gMi l E yX3_clearing cX3_clearing 3 .int 4 0 0 H [.ref (am 0), .int (iI j), .int (iI p)] (mW am) (fun z H1 => ∃ M1, MP E am M1 H1 ∧ M1 0 0 = erK S j p ∧ (erK S j p = 0 → z = clr S j.toNat p.toNat) ∧ mQ M M1) := by
  refine g_met (plainFor_of_name (by decide)) (Nat.le_of_ble_eq_true rfl) (fun P_ e_ s M_ bl mt_ c_ ls X hmeth_ hk hh hl => ?_)
  subst hh
  have X : gX P_ s M_ mt_ c_ cX3_clearing 3 ([.ref (am 0), .int (iI j), .int (iI p)] : List Value).toArray RX3 (some .int) := X
  have hl : lv_has ls 3 [(0, .ref (am 0)), (1, .int (iI j)), (2, .int (iI p))] := hl
  have hS : va_S (mW am) s.heap s.heap [] := va_S.rf
  have hn5 := hI.1.1
  have her : 0 ≤ erK S j p ∧ erK S j p ≤ 3 := by unfold erK; grind
  have hj0 : erK S j p = 0 → (0 ≤ j ∧ j ≤ (gN S : Int) - 1) ∧ (0 ≤ p ∧ p ≤ (gNp S j.toNat : Int) - 1) := by unfold erK; grind
  refine g_aload_n X dX3_clearing_0 rfl hl 0 rfl ?_
  have join_15 : gHide (∀ (z : Int) (ls : Array Slot), z = (erK S j p) → lv_has ls 3 [(0, .ref (am 0)), (1, .int (iI j)), (2, .int (iI p))] → W P_ l e_ (gR 4 0 0) s M_ ([.ref (am 0), .int (iI j), .int (iI p)] : List Value).toArray bl mt_ c_ s.heap [] 0 0 (MQ bl (gQi (mW am) (fun z H1 => ∃ M1, MP E am M1 H1 ∧ M1 0 0 = erK S j p ∧ (erK S j p = 0 → z = clr S j.toNat p.toNat) ∧ mQ M M1)) ([.ref (am 0), .int (iI j), .int (iI p)] : List Value).toArray s 0 0 (mW am)) (F0 M_ 15 ls [.int (iI z), .ref (am 0)])) := by
    intro z ls e_z hl
    subst e_z
    have hl : lv_has ls 3 [(0, .ref (am 0)), (1, .int (iI j)), (2, .int (iI p))] := hl
    refine g_calli (g_runV X hk (As := [.int (iI (erK S j p))]) (rest := []) rfl (MP.O hM) (m_holds l E am M s.heap hM (erK S j p) (by omega)) 1 (lw_V q694 q696 qs15 q48 q697) (by decide +kernel) ⟨⟨Nat.le_of_ble_eq_true rfl, Nat.le_of_ble_eq_true rfl⟩, Nat.le_of_ble_eq_true rfl, Nat.le_of_ble_eq_true rfl⟩ rfl rfl hl.1 (Nat.le_of_ble_eq_true rfl) dX3_clearing_15) hk hS (fun q h => h) (MP.N hM) (fun z_ H locs hP_ hk hz_ ho_ hS => ?_)
    obtain ⟨hz0_, hM⟩ := hP_
    subst hz0_
    obtain ⟨M29, eM29⟩ : ∃ M_ : MS, M_ = mset M 0 0 (erK S j p) := ⟨_, rfl⟩
    rw [← eM29] at hM
    have qM29 : mQ M M29 := by rw [eM29]; exact mset_Q M (Or.inl rfl)
    have tM29 : M29 0 0 = (erK S j p) := by rw [eM29]; exact mset_s _ _ _ _
    have zM29 : ∀ f i, f ≠ 0 → M29 f i = M f i := fun f i hf => by rw [eM29]; exact mset_n _ _ (fun e => hf e.1)
    have hR : MR S M29 := hR.Q qM29
    have hMI : mI M29 := hMI.Q qM29
    have hz9 := bZ_le (decide (erK S j p = 0))
    refine g_if_eq X dX3_clearing_18 (tgt := 30) (by decide) (by omega) (fun c18 => ?_) (fun c18 => ?_)
    · refine g_iconst X dX3_clearing_30 ?_
      exact g_iret X hS (⟨M29, hM, by grind, fun h => by grind [bZ], qM29⟩) ⟨Nat.le_of_ble_eq_true rfl, Nat.le_of_ble_eq_true rfl⟩ dX3_clearing_31
    · have hz : erK S j p = 0 := by grind [bZ]
      have hj1 := hj0 hz
      refine g_aload_n X dX3_clearing_21 rfl hl 0 rfl ?_
      refine g_iload_n X dX3_clearing_22 rfl hl 1 rfl ?_
      refine g_iload_n X dX3_clearing_23 rfl hl 2 rfl ?_
      have hcj_ := m_clearingOf l E am S M29 H hM hI hR j.toNat (by omega) p.toNat (by omega)
      rw [Int.toNat_of_nonneg (show 0 ≤ j by omega), Int.toNat_of_nonneg (show 0 ≤ p by omega)] at hcj_
      refine g_pV X hk (As := [.int (iI j), .int (iI p)]) (rest := []) rfl (MP.O hM) (hcj_) 2 (lw_V q759 q761 qs23 q48 q762) (by decide +kernel) ⟨⟨Nat.le_of_ble_eq_true rfl, Nat.le_of_ble_eq_true rfl⟩, Nat.le_of_ble_eq_true rfl, Nat.le_of_ble_eq_true rfl⟩ rfl rfl hl.1 (Nat.le_of_ble_eq_true rfl) dX3_clearing_24 ?_
      refine g_goto X dX3_clearing_27 (tgt := 31) (by decide) ?_
      exact g_iret X hS (⟨M29, hM, by grind, fun h => by grind [bZ], qM29⟩) ⟨Nat.le_of_ble_eq_true rfl, Nat.le_of_ble_eq_true rfl⟩ dX3_clearing_31
  refine g_aload_n X dX3_clearing_1 rfl hl 0 rfl ?_
  refine g_iload_n X dX3_clearing_2 rfl hl 1 rfl ?_
  refine g_iload_n X dX3_clearing_3 rfl hl 2 rfl ?_
  refine g_pV X hk (As := [.int (iI j), .int (iI p)]) (rest := [.ref (am 0)]) rfl (MP.O hM) (m_isPhase l E am S M s.heap hM hI hR j p (by omega) (by omega)) 2 (lw_V q819 q821 qs35 q48 q822) (by decide +kernel) ⟨⟨Nat.le_of_ble_eq_true rfl, Nat.le_of_ble_eq_true rfl⟩, Nat.le_of_ble_eq_true rfl, Nat.le_of_ble_eq_true rfl⟩ rfl rfl hl.1 (Nat.le_of_ble_eq_true rfl) dX3_clearing_4 ?_
  have h7 := bZ_le (decide ((0 ≤ j ∧ j ≤ (gN S : Int) - 1) ∧ (0 ≤ p ∧ p ≤ (gNp S j.toNat : Int) - 1)))
  refine g_if_eq X dX3_clearing_7 (tgt := 14) (by decide) (by omega) (fun c7 => ?_) (fun c7 => ?_)
  · refine g_iconst X dX3_clearing_14 ?_
    exact join_15.out 1 _ (by unfold erK; grind [bZ]) (lv_sub hl [0, 1, 2] rfl)
  · refine g_iconst X dX3_clearing_10 ?_
    refine g_goto X dX3_clearing_11 (tgt := 15) (by decide) ?_
    exact join_15.out 0 _ (by unfold erK; grind [bZ]) (lv_sub hl [0, 1, 2] rfl)
set_option maxHeartbeats 4000000 in
theorem m_offset (l : Launch) (E : EP) (am : Nat → Nat) (S : GS) (M : MS) (H : Heap) (hM : MP E am M H) (hI : gI S) (hR : MR S M) (hMI : mI M) (j : Int) (hj : -2147483648 ≤ j ∧ j ≤ 2147483647) : gMi l E yX3_offset cX3_offset 2 .int 4 0 0 H [.ref (am 0), .int (iI j)] (mW am) (fun z H1 => ∃ M1, MP E am M1 H1 ∧ M1 0 0 = erJ S j ∧ (erJ S j = 0 → z = gOff S j.toNat) ∧ mQ M M1) := by
  refine g_met (plainFor_of_name (by decide)) (Nat.le_of_ble_eq_true rfl) (fun P_ e_ s M_ bl mt_ c_ ls X hmeth_ hk hh hl => ?_)
  subst hh
  have X : gX P_ s M_ mt_ c_ cX3_offset 2 ([.ref (am 0), .int (iI j)] : List Value).toArray RX3 (some .int) := X
  have hl : lv_has ls 2 [(0, .ref (am 0)), (1, .int (iI j))] := hl
  have hS : va_S (mW am) s.heap s.heap [] := va_S.rf
  have hn5 := hI.1.1
  have her : 0 ≤ erJ S j ∧ erJ S j ≤ 1 := by unfold erJ; grind
  have hj0 : erJ S j = 0 → 0 ≤ j ∧ j ≤ (gN S : Int) - 1 := by unfold erJ; grind
  refine g_aload_n X dX3_offset_0 rfl hl 0 rfl ?_
  have join_14 : gHide (∀ (z : Int) (ls : Array Slot), z = (erJ S j) → lv_has ls 2 [(0, .ref (am 0)), (1, .int (iI j))] → W P_ l e_ (gR 4 0 0) s M_ ([.ref (am 0), .int (iI j)] : List Value).toArray bl mt_ c_ s.heap [] 0 0 (MQ bl (gQi (mW am) (fun z H1 => ∃ M1, MP E am M1 H1 ∧ M1 0 0 = erJ S j ∧ (erJ S j = 0 → z = gOff S j.toNat) ∧ mQ M M1)) ([.ref (am 0), .int (iI j)] : List Value).toArray s 0 0 (mW am)) (F0 M_ 14 ls [.int (iI z), .ref (am 0)])) := by
    intro z ls e_z hl
    subst e_z
    have hl : lv_has ls 2 [(0, .ref (am 0)), (1, .int (iI j))] := hl
    refine g_calli (g_runV X hk (As := [.int (iI (erJ S j))]) (rest := []) rfl (MP.O hM) (m_holds l E am M s.heap hM (erJ S j) (by omega)) 1 (lw_V q694 q696 qs15 q48 q697) (by decide +kernel) ⟨⟨Nat.le_of_ble_eq_true rfl, Nat.le_of_ble_eq_true rfl⟩, Nat.le_of_ble_eq_true rfl, Nat.le_of_ble_eq_true rfl⟩ rfl rfl hl.1 (Nat.le_of_ble_eq_true rfl) dX3_offset_14) hk hS (fun q h => h) (MP.N hM) (fun z_ H locs hP_ hk hz_ ho_ hS => ?_)
    obtain ⟨hz0_, hM⟩ := hP_
    subst hz0_
    obtain ⟨M30, eM30⟩ : ∃ M_ : MS, M_ = mset M 0 0 (erJ S j) := ⟨_, rfl⟩
    rw [← eM30] at hM
    have qM30 : mQ M M30 := by rw [eM30]; exact mset_Q M (Or.inl rfl)
    have tM30 : M30 0 0 = (erJ S j) := by rw [eM30]; exact mset_s _ _ _ _
    have zM30 : ∀ f i, f ≠ 0 → M30 f i = M f i := fun f i hf => by rw [eM30]; exact mset_n _ _ (fun e => hf e.1)
    have hR : MR S M30 := hR.Q qM30
    have hMI : mI M30 := hMI.Q qM30
    have hz9 := bZ_le (decide (erJ S j = 0))
    refine g_if_eq X dX3_offset_17 (tgt := 29) (by decide) (by omega) (fun c17 => ?_) (fun c17 => ?_)
    · refine g_iconst X dX3_offset_29 ?_
      exact g_iret X hS (⟨M30, hM, by grind, fun h => by grind [bZ], qM30⟩) ⟨Nat.le_of_ble_eq_true rfl, Nat.le_of_ble_eq_true rfl⟩ dX3_offset_30
    · have hz : erJ S j = 0 := by grind [bZ]
      have hj1 := hj0 hz
      refine g_aload_n X dX3_offset_20 rfl hl 0 rfl ?_
      refine g_get X hk (v := .ref (am 8)) in_X3 rfl (MP.O hM) 8 (by decide) q609 (rfl) dX3_offset_21 ?_
      refine g_iload_n X dX3_offset_24 rfl hl 1 rfl ?_
      refine g_ialdv X hk (j := j.toNat) (n := 5) (f := (M30 8)) (v := (gOff S j.toNat)) (MP.I hM 8 rfl) (by omega) (by omega) (MR.off hR (by omega)) dX3_offset_25 ?_
      refine g_goto X dX3_offset_26 (tgt := 30) (by decide) ?_
      exact g_iret X hS (⟨M30, hM, by grind, fun h => by grind [bZ], qM30⟩) ⟨Nat.le_of_ble_eq_true rfl, Nat.le_of_ble_eq_true rfl⟩ dX3_offset_30
  refine g_aload_n X dX3_offset_1 rfl hl 0 rfl ?_
  refine g_iload_n X dX3_offset_2 rfl hl 1 rfl ?_
  refine g_pV X hk (As := [.int (iI j)]) (rest := [.ref (am 0)]) rfl (MP.O hM) (m_isJunction l E am S M s.heap hM hI hR j (by omega)) 1 (lw_V q706 q708 qs17 q48 q709) (by decide +kernel) ⟨⟨Nat.le_of_ble_eq_true rfl, Nat.le_of_ble_eq_true rfl⟩, Nat.le_of_ble_eq_true rfl, Nat.le_of_ble_eq_true rfl⟩ rfl rfl hl.1 (Nat.le_of_ble_eq_true rfl) dX3_offset_3 ?_
  have h6 := bZ_le (decide (0 ≤ j ∧ j ≤ (gN S : Int) - 1))
  refine g_if_eq X dX3_offset_6 (tgt := 13) (by decide) (by omega) (fun c6 => ?_) (fun c6 => ?_)
  · refine g_iconst X dX3_offset_13 ?_
    exact join_14.out 1 _ (by unfold erJ; grind [bZ]) (lv_sub hl [0, 1] rfl)
  · refine g_iconst X dX3_offset_9 ?_
    refine g_goto X dX3_offset_10 (tgt := 14) (by decide) ?_
    exact join_14.out 0 _ (by unfold erJ; grind [bZ]) (lv_sub hl [0, 1] rfl)
set_option maxHeartbeats 4000000 in
theorem m_queue (l : Launch) (E : EP) (am : Nat → Nat) (S : GS) (M : MS) (H : Heap) (hM : MP E am M H) (hI : gI S) (hR : MR S M) (hMI : mI M) (j : Int) (hj : -2147483648 ≤ j ∧ j ≤ 2147483647) : gMi l E yX3_queue cX3_queue 2 .int 4 0 0 H [.ref (am 0), .int (iI j)] (mW am) (fun z H1 => ∃ M1, MP E am M1 H1 ∧ M1 0 0 = erJ S j ∧ (erJ S j = 0 → z = M 18 j.toNat) ∧ mQ M M1) := by
  refine g_met (plainFor_of_name (by decide)) (Nat.le_of_ble_eq_true rfl) (fun P_ e_ s M_ bl mt_ c_ ls X hmeth_ hk hh hl => ?_)
  subst hh
  have X : gX P_ s M_ mt_ c_ cX3_queue 2 ([.ref (am 0), .int (iI j)] : List Value).toArray RX3 (some .int) := X
  have hl : lv_has ls 2 [(0, .ref (am 0)), (1, .int (iI j))] := hl
  have hS : va_S (mW am) s.heap s.heap [] := va_S.rf
  have hn5 := hI.1.1
  have her : 0 ≤ erJ S j ∧ erJ S j ≤ 1 := by unfold erJ; grind
  have hj0 : erJ S j = 0 → 0 ≤ j ∧ j ≤ (gN S : Int) - 1 := by unfold erJ; grind
  refine g_aload_n X dX3_queue_0 rfl hl 0 rfl ?_
  have join_14 : gHide (∀ (z : Int) (ls : Array Slot), z = (erJ S j) → lv_has ls 2 [(0, .ref (am 0)), (1, .int (iI j))] → W P_ l e_ (gR 4 0 0) s M_ ([.ref (am 0), .int (iI j)] : List Value).toArray bl mt_ c_ s.heap [] 0 0 (MQ bl (gQi (mW am) (fun z H1 => ∃ M1, MP E am M1 H1 ∧ M1 0 0 = erJ S j ∧ (erJ S j = 0 → z = M 18 j.toNat) ∧ mQ M M1)) ([.ref (am 0), .int (iI j)] : List Value).toArray s 0 0 (mW am)) (F0 M_ 14 ls [.int (iI z), .ref (am 0)])) := by
    intro z ls e_z hl
    subst e_z
    have hl : lv_has ls 2 [(0, .ref (am 0)), (1, .int (iI j))] := hl
    refine g_calli (g_runV X hk (As := [.int (iI (erJ S j))]) (rest := []) rfl (MP.O hM) (m_holds l E am M s.heap hM (erJ S j) (by omega)) 1 (lw_V q694 q696 qs15 q48 q697) (by decide +kernel) ⟨⟨Nat.le_of_ble_eq_true rfl, Nat.le_of_ble_eq_true rfl⟩, Nat.le_of_ble_eq_true rfl, Nat.le_of_ble_eq_true rfl⟩ rfl rfl hl.1 (Nat.le_of_ble_eq_true rfl) dX3_queue_14) hk hS (fun q h => h) (MP.N hM) (fun z_ H locs hP_ hk hz_ ho_ hS => ?_)
    obtain ⟨hz0_, hM⟩ := hP_
    subst hz0_
    obtain ⟨M31, eM31⟩ : ∃ M_ : MS, M_ = mset M 0 0 (erJ S j) := ⟨_, rfl⟩
    rw [← eM31] at hM
    have qM31 : mQ M M31 := by rw [eM31]; exact mset_Q M (Or.inl rfl)
    have tM31 : M31 0 0 = (erJ S j) := by rw [eM31]; exact mset_s _ _ _ _
    have zM31 : ∀ f i, f ≠ 0 → M31 f i = M f i := fun f i hf => by rw [eM31]; exact mset_n _ _ (fun e => hf e.1)
    have hR : MR S M31 := hR.Q qM31
    have hMI : mI M31 := hMI.Q qM31
    have hz9 := bZ_le (decide (erJ S j = 0))
    refine g_if_eq X dX3_queue_17 (tgt := 29) (by decide) (by omega) (fun c17 => ?_) (fun c17 => ?_)
    · refine g_iconst X dX3_queue_29 ?_
      exact g_iret X hS (⟨M31, hM, by grind, fun h => by grind [bZ], qM31⟩) ⟨Nat.le_of_ble_eq_true rfl, Nat.le_of_ble_eq_true rfl⟩ dX3_queue_30
    · have hz : erJ S j = 0 := by grind [bZ]
      have hj1 := hj0 hz
      refine g_aload_n X dX3_queue_20 rfl hl 0 rfl ?_
      refine g_get X hk (v := .ref (am 18)) in_X3 rfl (MP.O hM) 18 (by decide) q619 (rfl) dX3_queue_21 ?_
      refine g_iload_n X dX3_queue_24 rfl hl 1 rfl ?_
      refine g_ialdv X hk (j := j.toNat) (n := 5) (f := (M31 18)) (v := ((M31 18) j.toNat)) (MP.I hM 18 rfl) (by omega) (by omega) (rfl) dX3_queue_25 ?_
      refine g_goto X dX3_queue_26 (tgt := 30) (by decide) ?_
      exact g_iret X hS (⟨M31, hM, by grind, fun h => by grind [bZ], qM31⟩) ⟨Nat.le_of_ble_eq_true rfl, Nat.le_of_ble_eq_true rfl⟩ dX3_queue_30
  refine g_aload_n X dX3_queue_1 rfl hl 0 rfl ?_
  refine g_iload_n X dX3_queue_2 rfl hl 1 rfl ?_
  refine g_pV X hk (As := [.int (iI j)]) (rest := [.ref (am 0)]) rfl (MP.O hM) (m_isJunction l E am S M s.heap hM hI hR j (by omega)) 1 (lw_V q706 q708 qs17 q48 q709) (by decide +kernel) ⟨⟨Nat.le_of_ble_eq_true rfl, Nat.le_of_ble_eq_true rfl⟩, Nat.le_of_ble_eq_true rfl, Nat.le_of_ble_eq_true rfl⟩ rfl rfl hl.1 (Nat.le_of_ble_eq_true rfl) dX3_queue_3 ?_
  have h6 := bZ_le (decide (0 ≤ j ∧ j ≤ (gN S : Int) - 1))
  refine g_if_eq X dX3_queue_6 (tgt := 13) (by decide) (by omega) (fun c6 => ?_) (fun c6 => ?_)
  · refine g_iconst X dX3_queue_13 ?_
    exact join_14.out 1 _ (by unfold erJ; grind [bZ]) (lv_sub hl [0, 1] rfl)
  · refine g_iconst X dX3_queue_9 ?_
    refine g_goto X dX3_queue_10 (tgt := 14) (by decide) ?_
    exact join_14.out 0 _ (by unfold erJ; grind [bZ]) (lv_sub hl [0, 1] rfl)
set_option maxHeartbeats 4000000 in
theorem m_held (l : Launch) (E : EP) (am : Nat → Nat) (S : GS) (M : MS) (H : Heap) (hM : MP E am M H) (hI : gI S) (hR : MR S M) (hMI : mI M) (j : Int) (hj : -2147483648 ≤ j ∧ j ≤ 2147483647) : gMi l E yX3_held cX3_held 2 .int 4 0 0 H [.ref (am 0), .int (iI j)] (mW am) (fun z H1 => ∃ M1, MP E am M1 H1 ∧ M1 0 0 = erH S j ∧ (erH S j = 0 → z = M 20 j.toNat + M 18 (j.toNat + 1)) ∧ mQ M M1) := by
  refine g_met (plainFor_of_name (by decide)) (Nat.le_of_ble_eq_true rfl) (fun P_ e_ s M_ bl mt_ c_ ls X hmeth_ hk hh hl => ?_)
  subst hh
  have X : gX P_ s M_ mt_ c_ cX3_held 2 ([.ref (am 0), .int (iI j)] : List Value).toArray RX3 (some .int) := X
  have hl : lv_has ls 2 [(0, .ref (am 0)), (1, .int (iI j))] := hl
  have hS : va_S (mW am) s.heap s.heap [] := va_S.rf
  have hn5 := hI.1.1
  have her : 0 ≤ erH S j ∧ erH S j ≤ 1 := by unfold erH; grind
  have hj0 : erH S j = 0 → 0 ≤ j ∧ j ≤ (gN S : Int) - 2 := by unfold erH; grind
  refine g_aload_n X dX3_held_0 rfl hl 0 rfl ?_
  have join_14 : gHide (∀ (z : Int) (ls : Array Slot), z = (erH S j) → lv_has ls 2 [(0, .ref (am 0)), (1, .int (iI j))] → W P_ l e_ (gR 4 0 0) s M_ ([.ref (am 0), .int (iI j)] : List Value).toArray bl mt_ c_ s.heap [] 0 0 (MQ bl (gQi (mW am) (fun z H1 => ∃ M1, MP E am M1 H1 ∧ M1 0 0 = erH S j ∧ (erH S j = 0 → z = M 20 j.toNat + M 18 (j.toNat + 1)) ∧ mQ M M1)) ([.ref (am 0), .int (iI j)] : List Value).toArray s 0 0 (mW am)) (F0 M_ 14 ls [.int (iI z), .ref (am 0)])) := by
    intro z ls e_z hl
    subst e_z
    have hl : lv_has ls 2 [(0, .ref (am 0)), (1, .int (iI j))] := hl
    refine g_calli (g_runV X hk (As := [.int (iI (erH S j))]) (rest := []) rfl (MP.O hM) (m_holds l E am M s.heap hM (erH S j) (by omega)) 1 (lw_V q694 q696 qs15 q48 q697) (by decide +kernel) ⟨⟨Nat.le_of_ble_eq_true rfl, Nat.le_of_ble_eq_true rfl⟩, Nat.le_of_ble_eq_true rfl, Nat.le_of_ble_eq_true rfl⟩ rfl rfl hl.1 (Nat.le_of_ble_eq_true rfl) dX3_held_14) hk hS (fun q h => h) (MP.N hM) (fun z_ H locs hP_ hk hz_ ho_ hS => ?_)
    obtain ⟨hz0_, hM⟩ := hP_
    subst hz0_
    obtain ⟨M32, eM32⟩ : ∃ M_ : MS, M_ = mset M 0 0 (erH S j) := ⟨_, rfl⟩
    rw [← eM32] at hM
    have qM32 : mQ M M32 := by rw [eM32]; exact mset_Q M (Or.inl rfl)
    have tM32 : M32 0 0 = (erH S j) := by rw [eM32]; exact mset_s _ _ _ _
    have zM32 : ∀ f i, f ≠ 0 → M32 f i = M f i := fun f i hf => by rw [eM32]; exact mset_n _ _ (fun e => hf e.1)
    have hR : MR S M32 := hR.Q qM32
    have hMI : mI M32 := hMI.Q qM32
    have hz9 := bZ_le (decide (erH S j = 0))
    refine g_if_eq X dX3_held_17 (tgt := 28) (by decide) (by omega) (fun c17 => ?_) (fun c17 => ?_)
    · refine g_iconst X dX3_held_28 ?_
      exact g_iret X hS (⟨M32, hM, by grind, fun h => by grind [bZ], qM32⟩) ⟨Nat.le_of_ble_eq_true rfl, Nat.le_of_ble_eq_true rfl⟩ dX3_held_29
    · have hz : erH S j = 0 := by grind [bZ]
      have hj1 := hj0 hz
      refine g_aload_n X dX3_held_20 rfl hl 0 rfl ?_
      refine g_iload_n X dX3_held_21 rfl hl 1 rfl ?_
      have hcj_ := m_heldOf l E am M32 H hM j.toNat (by omega)
      rw [Int.toNat_of_nonneg (show 0 ≤ j by omega)] at hcj_
      refine g_pV X hk (As := [.int (iI j)]) (rest := []) rfl (MP.O hM) (hcj_) 1 (lw_V q868 q870 qs40 q48 q871) (by decide +kernel) ⟨⟨Nat.le_of_ble_eq_true rfl, Nat.le_of_ble_eq_true rfl⟩, Nat.le_of_ble_eq_true rfl, Nat.le_of_ble_eq_true rfl⟩ rfl rfl hl.1 (Nat.le_of_ble_eq_true rfl) dX3_held_22 ?_
      refine g_goto X dX3_held_25 (tgt := 29) (by decide) ?_
      exact g_iret X hS (⟨M32, hM, by grind, fun h => by grind [bZ], qM32⟩) ⟨Nat.le_of_ble_eq_true rfl, Nat.le_of_ble_eq_true rfl⟩ dX3_held_29
  refine g_aload_n X dX3_held_1 rfl hl 0 rfl ?_
  refine g_iload_n X dX3_held_2 rfl hl 1 rfl ?_
  refine g_pV X hk (As := [.int (iI j)]) (rest := [.ref (am 0)]) rfl (MP.O hM) (m_isLink l E am S M s.heap hM hI hR j (by omega)) 1 (lw_V q739 q741 qs20 q48 q742) (by decide +kernel) ⟨⟨Nat.le_of_ble_eq_true rfl, Nat.le_of_ble_eq_true rfl⟩, Nat.le_of_ble_eq_true rfl, Nat.le_of_ble_eq_true rfl⟩ rfl rfl hl.1 (Nat.le_of_ble_eq_true rfl) dX3_held_3 ?_
  have h6 := bZ_le (decide (0 ≤ j ∧ j ≤ (gN S : Int) - 2))
  refine g_if_eq X dX3_held_6 (tgt := 13) (by decide) (by omega) (fun c6 => ?_) (fun c6 => ?_)
  · refine g_iconst X dX3_held_13 ?_
    exact join_14.out 1 _ (by unfold erH; grind [bZ]) (lv_sub hl [0, 1] rfl)
  · refine g_iconst X dX3_held_9 ?_
    refine g_goto X dX3_held_10 (tgt := 14) (by decide) ?_
    exact join_14.out 0 _ (by unfold erH; grind [bZ]) (lv_sub hl [0, 1] rfl)
set_option maxHeartbeats 4000000 in
theorem m_isGreen (l : Launch) (E : EP) (am : Nat → Nat) (S : GS) (M : MS) (H : Heap) (hM : MP E am M H) (hI : gI S) (hR : MR S M) (hMI : mI M) (j v t : Int) (hj : -2147483648 ≤ j ∧ j ≤ 2147483647) (hv : -2147483648 ≤ v ∧ v ≤ 2147483647) (ht : -2147483648 ≤ t ∧ t ≤ 2147483647) : gMi l E yX3_isGreen cX3_isGreen 5 .boolean 4 0 0 H [.ref (am 0), .int (iI j), .int (iI v), .int (iI t)] (mW am) (fun z H1 => ∃ M1, MP E am M1 H1 ∧ M1 0 0 = erS S j v t ∧ (erS S j v t = 0 → z = bZ (gAt S j.toNat v t)) ∧ mQ M M1) := by
  refine g_met (plainFor_of_name (by decide)) (Nat.le_of_ble_eq_true rfl) (fun P_ e_ s M_ bl mt_ c_ ls X hmeth_ hk hh hl => ?_)
  subst hh
  have X : gX P_ s M_ mt_ c_ cX3_isGreen 5 ([.ref (am 0), .int (iI j), .int (iI v), .int (iI t)] : List Value).toArray RX3 (some .boolean) := X
  have hl : lv_has ls 5 [(0, .ref (am 0)), (1, .int (iI j)), (2, .int (iI v)), (3, .int (iI t))] := hl
  have hS : va_S (mW am) s.heap s.heap [] := va_S.rf
  have hn5 := hI.1.1
  have her : 0 ≤ erS S j v t ∧ erS S j v t ≤ 3 := by unfold erS; grind
  have hj0 : erS S j v t = 0 → ((0 ≤ j ∧ j ≤ (gN S : Int) - 1) ∧ (0 ≤ t ∧ t ≤ 100000)) ∧ 0 ≤ lft S j.toNat := by unfold erS; grind
  have join_20 : gHide (∀ (z : Int) (ls : Array Slot), z = (bZ (decide ((0 ≤ j ∧ j ≤ (gN S : Int) - 1) ∧ (0 ≤ v ∧ v ≤ 3)))) → lv_has ls 5 [(0, .ref (am 0)), (1, .int (iI j)), (2, .int (iI v)), (3, .int (iI t))] → W P_ l e_ (gR 4 0 0) s M_ ([.ref (am 0), .int (iI j), .int (iI v), .int (iI t)] : List Value).toArray bl mt_ c_ s.heap [] 0 0 (MQ bl (gQi (mW am) (fun z H1 => ∃ M1, MP E am M1 H1 ∧ M1 0 0 = erS S j v t ∧ (erS S j v t = 0 → z = bZ (gAt S j.toNat v t)) ∧ mQ M M1)) ([.ref (am 0), .int (iI j), .int (iI v), .int (iI t)] : List Value).toArray s 0 0 (mW am)) (F0 M_ 20 ls [.int (iI z)])) := by
    intro z ls e_z hl
    subst e_z
    have hl : lv_has ls 5 [(0, .ref (am 0)), (1, .int (iI j)), (2, .int (iI v)), (3, .int (iI t))] := hl
    have h20 := bZ_le (decide ((0 ≤ j ∧ j ≤ (gN S : Int) - 1) ∧ (0 ≤ v ∧ v ≤ 3)))
    refine g_istore (lv' := [(4, .int (iI (bZ (decide ((0 ≤ j ∧ j ≤ (gN S : Int) - 1) ∧ (0 ≤ v ∧ v ≤ 3)))))), (0, .ref (am 0)), (1, .int (iI j)), (2, .int (iI v)), (3, .int (iI t))]) X dX3_isGreen_20 hl (by decide) rfl (fun ls hl => ?_)
    refine g_aload_n X dX3_isGreen_22 rfl hl 1 rfl ?_
    have join_59 : gHide (∀ (Mx : MS) (z : Int) (H : Heap) (locs : List Loc) (ls : Array Slot), z = (erS S j v t) → (mQ M Mx) → (MR S Mx) → (mI Mx) → (erS S j v t = 0 → mPl S Mx j.toNat) → (kk E s H) → (va_S (mW am) s.heap H locs) → (MP E am Mx H) → lv_has ls 5 [(4, .int (iI (bZ (decide ((0 ≤ j ∧ j ≤ (gN S : Int) - 1) ∧ (0 ≤ v ∧ v ≤ 3)))))), (0, .ref (am 0)), (1, .int (iI j)), (2, .int (iI v)), (3, .int (iI t))] → W P_ l e_ (gR 4 0 0) s M_ ([.ref (am 0), .int (iI j), .int (iI v), .int (iI t)] : List Value).toArray bl mt_ c_ H locs 0 0 (MQ bl (gQi (mW am) (fun z H1 => ∃ M1, MP E am M1 H1 ∧ M1 0 0 = erS S j v t ∧ (erS S j v t = 0 → z = bZ (gAt S j.toNat v t)) ∧ mQ M M1)) ([.ref (am 0), .int (iI j), .int (iI v), .int (iI t)] : List Value).toArray s 0 0 (mW am)) (F0 M_ 59 ls [.int (iI z), .ref (am 0)])) := by
      intro Mx z H locs ls e_z hQ hR hMI hP9 hk hS hM hl
      subst e_z
      have hl : lv_has ls 5 [(4, .int (iI (bZ (decide ((0 ≤ j ∧ j ≤ (gN S : Int) - 1) ∧ (0 ≤ v ∧ v ≤ 3)))))), (0, .ref (am 0)), (1, .int (iI j)), (2, .int (iI v)), (3, .int (iI t))] := hl
      refine g_calli (g_runV X hk (As := [.int (iI (erS S j v t))]) (rest := []) rfl (MP.O hM) (m_holds l E am Mx H hM (erS S j v t) (by omega)) 1 (lw_V q694 q696 qs15 q48 q697) (by decide +kernel) ⟨⟨Nat.le_of_ble_eq_true rfl, Nat.le_of_ble_eq_true rfl⟩, Nat.le_of_ble_eq_true rfl, Nat.le_of_ble_eq_true rfl⟩ rfl rfl hl.1 (Nat.le_of_ble_eq_true rfl) dX3_isGreen_59) hk hS (fun q h => h) (MP.N hM) (fun z_ H locs hP_ hk hz_ ho_ hS => ?_)
      obtain ⟨hz0_, hM⟩ := hP_
      subst hz0_
      obtain ⟨M33, eM33⟩ : ∃ M_ : MS, M_ = mset Mx 0 0 (erS S j v t) := ⟨_, rfl⟩
      rw [← eM33] at hM
      have qM33 : mQ Mx M33 := by rw [eM33]; exact mset_Q Mx (Or.inl rfl)
      have tM33 : M33 0 0 = (erS S j v t) := by rw [eM33]; exact mset_s _ _ _ _
      have zM33 : ∀ f i, f ≠ 0 → M33 f i = Mx f i := fun f i hf => by rw [eM33]; exact mset_n _ _ (fun e => hf e.1)
      have hR : MR S M33 := hR.Q qM33
      have hMI : mI M33 := hMI.Q qM33
      have hz9 := bZ_le (decide (erS S j v t = 0))
      refine g_if_eq X dX3_isGreen_62 (tgt := 80) (by decide) (by omega) (fun c62 => ?_) (fun c62 => ?_)
      · refine g_iconst X dX3_isGreen_80 ?_
        exact g_zret X (by omega) hS (⟨M33, hM, by grind, fun h => by grind [bZ], (hQ).trans qM33⟩) ⟨Nat.le_of_ble_eq_true rfl, Nat.le_of_ble_eq_true rfl⟩ dX3_isGreen_81
      · have hz : erS S j v t = 0 := by grind [bZ]
        have hj1 := hj0 hz
        have hPl := hP9 hz
        have hPl : mPl S M33 j.toNat := hPl.Z zM33
        refine g_aload_n X dX3_isGreen_65 rfl hl 1 rfl ?_
        refine g_iload_n X dX3_isGreen_66 rfl hl 2 rfl ?_
        refine g_iload_n X dX3_isGreen_67 rfl hl 3 rfl ?_
        refine g_iload_n X dX3_isGreen_68 rfl hl 4 rfl ?_
        refine g_iconst X dX3_isGreen_69 ?_
        have hcj_ := m_isGreenF l E am S M33 H hM hI hR j.toNat (by omega) v t (by omega) hMI (by omega) hPl
        rw [Int.toNat_of_nonneg (show 0 ≤ j by omega)] at hcj_
        refine g_pV X hk (As := [.int (iI j), .int (iI v), .int (iI t), .int (iI 0)]) (rest := []) rfl (MP.O hM) (hcj_) 4 (lw_V q787 q789 qs30 q48 q790) (by decide +kernel) ⟨⟨Nat.le_of_ble_eq_true rfl, Nat.le_of_ble_eq_true rfl⟩, Nat.le_of_ble_eq_true rfl, Nat.le_of_ble_eq_true rfl⟩ rfl rfl hl.1 (Nat.le_of_ble_eq_true rfl) dX3_isGreen_70 ?_
        have h73 := bZ_le (gAt S j.toNat v t)
        refine g_if_eq X dX3_isGreen_73 (tgt := 80) (by decide) (by omega) (fun c73 => ?_) (fun c73 => ?_)
        · refine g_iconst X dX3_isGreen_80 ?_
          exact g_zret X (by omega) hS (⟨M33, hM, by grind, fun h => by grind [bZ], (hQ).trans qM33⟩) ⟨Nat.le_of_ble_eq_true rfl, Nat.le_of_ble_eq_true rfl⟩ dX3_isGreen_81
        · refine g_iconst X dX3_isGreen_76 ?_
          refine g_goto X dX3_isGreen_77 (tgt := 81) (by decide) ?_
          exact g_zret X (by omega) hS (⟨M33, hM, by grind, fun h => by grind [bZ], (hQ).trans qM33⟩) ⟨Nat.le_of_ble_eq_true rfl, Nat.le_of_ble_eq_true rfl⟩ dX3_isGreen_81
    refine g_iload X dX3_isGreen_23 hl 0 rfl ?_
    refine g_if_ne X dX3_isGreen_25 (tgt := 32) (by decide) (by omega) (fun c25 => ?_) (fun c25 => ?_)
    · refine g_iload_n X dX3_isGreen_32 rfl hl 4 rfl ?_
      refine g_iconst X dX3_isGreen_33 ?_
      refine g_ldc (n := 100000) X q835 dX3_isGreen_34 ?_
      refine g_pS X hk (As := [.int (iI t), .int (iI 0), .int (iI 100000)]) (rest := [.ref (am 0)]) (m_in l E t 0 100000 s.heap (by omega) (by omega) (by omega)) 3 (lw_S q691 q692 q48 q693) (by decide +kernel) ⟨⟨Nat.le_of_ble_eq_true rfl, Nat.le_of_ble_eq_true rfl⟩, Nat.le_of_ble_eq_true rfl, Nat.le_of_ble_eq_true rfl⟩ rfl rfl hl.1 (Nat.le_of_ble_eq_true rfl) dX3_isGreen_36 ?_
      have h39 := bZ_le (decide (0 ≤ t ∧ t ≤ 100000))
      refine g_if_ne X dX3_isGreen_39 (tgt := 46) (by decide) (by omega) (fun c39 => ?_) (fun c39 => ?_)
      · have hj1 : 0 ≤ j ∧ j ≤ (gN S : Int) - 1 := by grind [bZ]
        refine g_aload_n X dX3_isGreen_46 rfl hl 1 rfl ?_
        refine g_iload_n X dX3_isGreen_47 rfl hl 2 rfl ?_
        have hcj_ := m_isPlanned l E am S M s.heap hM hI hR j.toNat (by omega)
        rw [Int.toNat_of_nonneg (show 0 ≤ j by omega)] at hcj_
        refine g_calli (g_runV X hk (As := [.int (iI j)]) (rest := [.ref (am 0)]) rfl (MP.O hM) (hcj_) 1 (lw_V q811 q813 qs34 q48 q814) (by decide +kernel) ⟨⟨Nat.le_of_ble_eq_true rfl, Nat.le_of_ble_eq_true rfl⟩, Nat.le_of_ble_eq_true rfl, Nat.le_of_ble_eq_true rfl⟩ rfl rfl hl.1 (Nat.le_of_ble_eq_true rfl) dX3_isGreen_48) hk hS (fun q h => h) (MP.N hM) (fun z_ H locs hP_ hk hz_ ho_ hS => ?_)
        obtain ⟨hz0_, hP_⟩ := hP_
        subst hz0_
        obtain ⟨M34, hM, xM34, pM34⟩ := hP_
        have qM34 := xM34.Q
        have tM34 := xM34.t
        have hR : MR S M34 := hR.Q qM34
        have hMI : mI M34 := hMI.Q qM34
        have hap := bZ_le (decide (0 ≤ lft S j.toNat))
        have hPl : mPl S M34 j.toNat := pM34
        refine g_if_eq X dX3_isGreen_51 (tgt := 58) (by decide) (by omega) (fun c51 => ?_) (fun c51 => ?_)
        · refine g_iconst X dX3_isGreen_58 ?_
          exact join_59.out M34 3 H locs _ (by unfold erS; grind [bZ]) qM34 hR hMI (fun h => by first | exact hPl | (exfalso; revert h; unfold erS; grind [bZ])) hk hS hM (lv_sub hl [0, 1, 2, 3, 4] rfl)
        · refine g_iconst X dX3_isGreen_54 ?_
          refine g_goto X dX3_isGreen_55 (tgt := 59) (by decide) ?_
          exact join_59.out M34 0 H locs _ (by unfold erS; grind [bZ]) qM34 hR hMI (fun h => by first | exact hPl | (exfalso; revert h; unfold erS; grind [bZ])) hk hS hM (lv_sub hl [0, 1, 2, 3, 4] rfl)
      · refine g_iconst X dX3_isGreen_42 ?_
        refine g_goto X dX3_isGreen_43 (tgt := 59) (by decide) ?_
        exact join_59.out M 2 s.heap [] _ (by unfold erS; grind [bZ]) (mQ.rf M) hR hMI (fun h => by first | exact hPl | (exfalso; revert h; unfold erS; grind [bZ])) hk hS hM (lv_sub hl [0, 1, 2, 3, 4] rfl)
    · refine g_iconst X dX3_isGreen_28 ?_
      refine g_goto X dX3_isGreen_29 (tgt := 59) (by decide) ?_
      exact join_59.out M 1 s.heap [] _ (by unfold erS; grind [bZ]) (mQ.rf M) hR hMI (fun h => by first | exact hPl | (exfalso; revert h; unfold erS; grind [bZ])) hk hS hM (lv_sub hl [0, 1, 2, 3, 4] rfl)
  refine g_aload_n X dX3_isGreen_0 rfl hl 0 rfl ?_
  refine g_iload_n X dX3_isGreen_1 rfl hl 1 rfl ?_
  refine g_pV X hk (As := [.int (iI j)]) (rest := []) rfl (MP.O hM) (m_isJunction l E am S M s.heap hM hI hR j (by omega)) 1 (lw_V q706 q708 qs17 q48 q709) (by decide +kernel) ⟨⟨Nat.le_of_ble_eq_true rfl, Nat.le_of_ble_eq_true rfl⟩, Nat.le_of_ble_eq_true rfl, Nat.le_of_ble_eq_true rfl⟩ rfl rfl hl.1 (Nat.le_of_ble_eq_true rfl) dX3_isGreen_2 ?_
  have h5 := bZ_le (decide (0 ≤ j ∧ j ≤ (gN S : Int) - 1))
  refine g_if_eq X dX3_isGreen_5 (tgt := 19) (by decide) (by omega) (fun c5 => ?_) (fun c5 => ?_)
  · refine g_iconst X dX3_isGreen_19 ?_
    exact join_20.out 0 _ (by grind [bZ]) (lv_sub hl [0, 1, 2, 3] rfl)
  · refine g_iload_n X dX3_isGreen_8 rfl hl 2 rfl ?_
    refine g_pS X hk (As := [.int (iI v)]) (rest := []) (m_isMovement l E v s.heap (by omega)) 1 (lw_S q710 q711 q48 q712) (by decide +kernel) ⟨⟨Nat.le_of_ble_eq_true rfl, Nat.le_of_ble_eq_true rfl⟩, Nat.le_of_ble_eq_true rfl, Nat.le_of_ble_eq_true rfl⟩ rfl rfl hl.1 (Nat.le_of_ble_eq_true rfl) dX3_isGreen_9 ?_
    have h12 := bZ_le (decide (0 ≤ v ∧ v ≤ 3))
    refine g_if_eq X dX3_isGreen_12 (tgt := 19) (by decide) (by omega) (fun c12 => ?_) (fun c12 => ?_)
    · refine g_iconst X dX3_isGreen_19 ?_
      exact join_20.out 0 _ (by grind [bZ]) (lv_sub hl [0, 1, 2, 3] rfl)
    · refine g_iconst X dX3_isGreen_15 ?_
      refine g_goto X dX3_isGreen_16 (tgt := 20) (by decide) ?_
      exact join_20.out 1 _ (by grind [bZ]) (lv_sub hl [0, 1, 2, 3] rfl)
set_option maxHeartbeats 4000000 in
theorem m_breaches (l : Launch) (E : EP) (am : Nat → Nat) (S : GS) (M : MS) (H : Heap) (hM : MP E am M H) (hI : gI S) (hR : MR S M) (hMI : mI M) (j : Int) (hj : -2147483648 ≤ j ∧ j ≤ 2147483647) : gMi l E yX3_breaches cX3_breaches 4 .int 5 0 0 H [.ref (am 0), .int (iI j)] (mW am) (fun z H1 => ∃ M1, MP E am M1 H1 ∧ M1 0 0 = erN S j ∧ (erN S j = 0 → z = bsM S j.toNat (gCyc S).toNat) ∧ mQ M M1) := by
  refine g_met (plainFor_of_name (by decide)) (Nat.le_of_ble_eq_true rfl) (fun P_ e_ s M_ bl mt_ c_ ls X hmeth_ hk hh hl => ?_)
  subst hh
  have X : gX P_ s M_ mt_ c_ cX3_breaches 4 ([.ref (am 0), .int (iI j)] : List Value).toArray RX3 (some .int) := X
  have hl : lv_has ls 4 [(0, .ref (am 0)), (1, .int (iI j))] := hl
  have hS : va_S (mW am) s.heap s.heap [] := va_S.rf
  have hn5 := hI.1.1
  have hc := hI.2.1
  have her : 0 ≤ erN S j ∧ erN S j ≤ 3 := by unfold erN; grind
  have hj0 : erN S j = 0 → (0 ≤ j ∧ j ≤ (gN S : Int) - 1) ∧ 0 ≤ lft S j.toNat := by unfold erN; grind
  refine g_aload_n X dX3_breaches_0 rfl hl 0 rfl ?_
  have join_26 : gHide (∀ (Mx : MS) (z : Int) (H : Heap) (locs : List Loc) (ls : Array Slot), z = (erN S j) → (mQ M Mx) → (MR S Mx) → (mI Mx) → (erN S j = 0 → mPl S Mx j.toNat) → (kk E s H) → (va_S (mW am) s.heap H locs) → (MP E am Mx H) → lv_has ls 4 [(0, .ref (am 0)), (1, .int (iI j))] → W P_ l e_ (gR 5 0 0) s M_ ([.ref (am 0), .int (iI j)] : List Value).toArray bl mt_ c_ H locs 0 0 (MQ bl (gQi (mW am) (fun z H1 => ∃ M1, MP E am M1 H1 ∧ M1 0 0 = erN S j ∧ (erN S j = 0 → z = bsM S j.toNat (gCyc S).toNat) ∧ mQ M M1)) ([.ref (am 0), .int (iI j)] : List Value).toArray s 0 0 (mW am)) (F0 M_ 26 ls [.int (iI z), .ref (am 0)])) := by
    intro Mx z H locs ls e_z hQ hR hMI hP9 hk hS hM hl
    subst e_z
    have hl : lv_has ls 4 [(0, .ref (am 0)), (1, .int (iI j))] := hl
    refine g_calli (g_runV X hk (As := [.int (iI (erN S j))]) (rest := []) rfl (MP.O hM) (m_holds l E am Mx H hM (erN S j) (by omega)) 1 (lw_V q694 q696 qs15 q48 q697) (by decide +kernel) ⟨⟨Nat.le_of_ble_eq_true rfl, Nat.le_of_ble_eq_true rfl⟩, Nat.le_of_ble_eq_true rfl, Nat.le_of_ble_eq_true rfl⟩ rfl rfl hl.1 (Nat.le_of_ble_eq_true rfl) dX3_breaches_26) hk hS (fun q h => h) (MP.N hM) (fun z_ H locs hP_ hk hz_ ho_ hS => ?_)
    obtain ⟨hz0_, hM⟩ := hP_
    subst hz0_
    obtain ⟨M35, eM35⟩ : ∃ M_ : MS, M_ = mset Mx 0 0 (erN S j) := ⟨_, rfl⟩
    rw [← eM35] at hM
    have qM35 : mQ Mx M35 := by rw [eM35]; exact mset_Q Mx (Or.inl rfl)
    have tM35 : M35 0 0 = (erN S j) := by rw [eM35]; exact mset_s _ _ _ _
    have zM35 : ∀ f i, f ≠ 0 → M35 f i = Mx f i := fun f i hf => by rw [eM35]; exact mset_n _ _ (fun e => hf e.1)
    have hR : MR S M35 := hR.Q qM35
    have hMI : mI M35 := hMI.Q qM35
    have hz9 := bZ_le (decide (erN S j = 0))
    refine g_if_ne X dX3_breaches_29 (tgt := 34) (by decide) (by omega) (fun c29 => ?_) (fun c29 => ?_)
    · have hz : erN S j = 0 := by grind [bZ]
      have hj1 := hj0 hz
      have hPl := hP9 hz
      have hPl : mPl S M35 j.toNat := hPl.Z zM35
      refine g_iconst X dX3_breaches_34 ?_
      refine g_istore_n (lv' := [(2, .int (iI 0)), (0, .ref (am 0)), (1, .int (iI j))]) X dX3_breaches_35 rfl hl (by decide) rfl (fun ls hl => ?_)
      refine g_iconst X dX3_breaches_36 ?_
      refine g_istore_n (lv' := [(3, .int (iI 0)), (2, .int (iI 0)), (0, .ref (am 0)), (1, .int (iI j))]) X dX3_breaches_37 rfl hl (by decide) rfl (fun ls hl => ?_)
      have loop_38 : gHide (∀ (n_ : Nat) (k : Nat) (v3 : Int) (v2 : Int), (gCyc S).toNat + 1 ≤ k + n_ → v3 = ((k : Nat) : Int) → v2 = (bsM S j.toNat k) → (k ≤ (gCyc S).toNat) → ∀ (ls : Array Slot), lv_has ls 4 [(3, .int (iI v3)), (2, .int (iI v2)), (0, .ref (am 0)), (1, .int (iI j))] → W P_ l e_ (gR 5 0 0) s M_ ([.ref (am 0), .int (iI j)] : List Value).toArray bl mt_ c_ H locs 0 0 (MQ bl (gQi (mW am) (fun z H1 => ∃ M1, MP E am M1 H1 ∧ M1 0 0 = erN S j ∧ (erN S j = 0 → z = bsM S j.toNat (gCyc S).toNat) ∧ mQ M M1)) ([.ref (am 0), .int (iI j)] : List Value).toArray s 0 0 (mW am)) (F0 M_ 38 ls [])) := by
        intro n_
        induction n_ with
        | zero => intro k v3 v2 hb_ e_v3 e_v2 hkb ls hl; exact absurd hb_ (by omega)
        | succ n_ ih_38 =>
          replace ih_38 := gHide.mk ih_38
          intro k v3 v2 hb_ e_v3 e_v2 hkb ls hl
          subst e_v3
          subst e_v2
          have hl : lv_has ls 4 [(3, .int (iI ((k : Nat) : Int))), (2, .int (iI (bsM S j.toNat k))), (0, .ref (am 0)), (1, .int (iI j))] := hl
          refine g_iload_n X dX3_breaches_38 rfl hl 0 rfl ?_
          refine g_aload_n X dX3_breaches_39 rfl hl 2 rfl ?_
          refine g_get X hk (v := .int (iI (gCyc S))) in_X3 rfl (MP.O hM) 2 (by decide) q603 (sI (MR.cyc hR)) dX3_breaches_40 ?_
          refine g_icmp_ge X dX3_breaches_43 (tgt := 69) (by decide) (by omega) (fun c43 => ?_) (fun c43 => ?_)
          · refine g_iload_n X dX3_breaches_69 rfl hl 1 rfl ?_
            exact g_iret X hS (⟨M35, hM, by grind, fun h => by rw [show k = (gCyc S).toNat by omega], (hQ).trans qM35⟩) ⟨Nat.le_of_ble_eq_true rfl, Nat.le_of_ble_eq_true rfl⟩ dX3_breaches_70
          · refine g_iload_n X dX3_breaches_46 rfl hl 1 rfl ?_
            refine g_aload_n X dX3_breaches_47 rfl hl 2 rfl ?_
            refine g_iload_n X dX3_breaches_48 rfl hl 3 rfl ?_
            refine g_iload_n X dX3_breaches_49 rfl hl 0 rfl ?_
            have hcj_ := m_isBreach l E am S M35 H hM hI hR j.toNat (by omega) ((k : Nat) : Int) (by omega) hMI (by omega) hPl
            rw [Int.toNat_of_nonneg (show 0 ≤ j by omega)] at hcj_
            refine g_pV X hk (As := [.int (iI j), .int (iI ((k : Nat) : Int))]) (rest := [.int (iI (bsM S j.toNat k))]) rfl (MP.O hM) (hcj_) 2 (lw_V q840 q842 qs36 q48 q843) (by decide +kernel) ⟨⟨Nat.le_of_ble_eq_true rfl, Nat.le_of_ble_eq_true rfl⟩, Nat.le_of_ble_eq_true rfl, Nat.le_of_ble_eq_true rfl⟩ rfl rfl hl.1 (Nat.le_of_ble_eq_true rfl) dX3_breaches_50 ?_
            have h53 := bZ_le (brK S j.toNat ((((k : Nat) : Int) - gOff S j.toNat) % gCyc S) 16)
            refine g_if_eq X dX3_breaches_53 (tgt := 60) (by decide) (by omega) (fun c53 => ?_) (fun c53 => ?_)
            · refine g_iconst X dX3_breaches_60 ?_
              refine g_iadd X dX3_breaches_61 ?_
              refine g_istore_n (lv' := [(2, .int (iI ((bsM S j.toNat k) + 0))), (3, .int (iI ((k : Nat) : Int))), (0, .ref (am 0)), (1, .int (iI j))]) X dX3_breaches_62 rfl hl (by decide) rfl (fun ls hl => ?_)
              refine g_iinc (lv' := [(3, .int (iI (((k : Nat) : Int) + 1))), (2, .int (iI ((bsM S j.toNat k) + 0))), (0, .ref (am 0)), (1, .int (iI j))]) X dX3_breaches_63 hl (k := 1) rfl (by decide) rfl (fun ls hl => ?_)
              refine g_goto X dX3_breaches_66 (tgt := 38) (by decide) ?_
              exact ih_38.out (k + 1) (((k : Nat) : Int) + 1) ((bsM S j.toNat k) + 0) (by omega) (by omega) (by show _ = bsM S j.toNat k + bZ _; grind [bZ]) (by omega) _ (lv_sub hl [0, 1, 2, 3] rfl)
            · refine g_iconst X dX3_breaches_56 ?_
              refine g_goto X dX3_breaches_57 (tgt := 61) (by decide) ?_
              refine g_iadd X dX3_breaches_61 ?_
              refine g_istore_n (lv' := [(2, .int (iI ((bsM S j.toNat k) + 1))), (3, .int (iI ((k : Nat) : Int))), (0, .ref (am 0)), (1, .int (iI j))]) X dX3_breaches_62 rfl hl (by decide) rfl (fun ls hl => ?_)
              refine g_iinc (lv' := [(3, .int (iI (((k : Nat) : Int) + 1))), (2, .int (iI ((bsM S j.toNat k) + 1))), (0, .ref (am 0)), (1, .int (iI j))]) X dX3_breaches_63 hl (k := 1) rfl (by decide) rfl (fun ls hl => ?_)
              refine g_goto X dX3_breaches_66 (tgt := 38) (by decide) ?_
              exact ih_38.out (k + 1) (((k : Nat) : Int) + 1) ((bsM S j.toNat k) + 1) (by omega) (by omega) (by show _ = bsM S j.toNat k + bZ _; grind [bZ]) (by omega) _ (lv_sub hl [0, 1, 2, 3] rfl)
      exact loop_38.out ((gCyc S).toNat + 1) 0 0 0 (by omega) (rfl) (rfl) (by omega) _ (lv_sub hl [0, 1, 2, 3] rfl)
    · refine g_iconst X dX3_breaches_32 ?_
      exact g_iret X hS (⟨M35, hM, by grind, fun h => absurd h (by grind [bZ]), (hQ).trans qM35⟩) ⟨Nat.le_of_ble_eq_true rfl, Nat.le_of_ble_eq_true rfl⟩ dX3_breaches_33
  refine g_aload_n X dX3_breaches_1 rfl hl 0 rfl ?_
  refine g_iload_n X dX3_breaches_2 rfl hl 1 rfl ?_
  refine g_pV X hk (As := [.int (iI j)]) (rest := [.ref (am 0)]) rfl (MP.O hM) (m_isJunction l E am S M s.heap hM hI hR j (by omega)) 1 (lw_V q706 q708 qs17 q48 q709) (by decide +kernel) ⟨⟨Nat.le_of_ble_eq_true rfl, Nat.le_of_ble_eq_true rfl⟩, Nat.le_of_ble_eq_true rfl, Nat.le_of_ble_eq_true rfl⟩ rfl rfl hl.1 (Nat.le_of_ble_eq_true rfl) dX3_breaches_3 ?_
  have h6 := bZ_le (decide (0 ≤ j ∧ j ≤ (gN S : Int) - 1))
  refine g_if_ne X dX3_breaches_6 (tgt := 13) (by decide) (by omega) (fun c6 => ?_) (fun c6 => ?_)
  · have hj1 : 0 ≤ j ∧ j ≤ (gN S : Int) - 1 := by grind [bZ]
    refine g_aload_n X dX3_breaches_13 rfl hl 0 rfl ?_
    refine g_iload_n X dX3_breaches_14 rfl hl 1 rfl ?_
    have hcj_ := m_isPlanned l E am S M s.heap hM hI hR j.toNat (by omega)
    rw [Int.toNat_of_nonneg (show 0 ≤ j by omega)] at hcj_
    refine g_calli (g_runV X hk (As := [.int (iI j)]) (rest := [.ref (am 0)]) rfl (MP.O hM) (hcj_) 1 (lw_V q811 q813 qs34 q48 q814) (by decide +kernel) ⟨⟨Nat.le_of_ble_eq_true rfl, Nat.le_of_ble_eq_true rfl⟩, Nat.le_of_ble_eq_true rfl, Nat.le_of_ble_eq_true rfl⟩ rfl rfl hl.1 (Nat.le_of_ble_eq_true rfl) dX3_breaches_15) hk hS (fun q h => h) (MP.N hM) (fun z_ H locs hP_ hk hz_ ho_ hS => ?_)
    obtain ⟨hz0_, hP_⟩ := hP_
    subst hz0_
    obtain ⟨M36, hM, xM36, pM36⟩ := hP_
    have qM36 := xM36.Q
    have tM36 := xM36.t
    have hR : MR S M36 := hR.Q qM36
    have hMI : mI M36 := hMI.Q qM36
    have hap := bZ_le (decide (0 ≤ lft S j.toNat))
    have hPl : mPl S M36 j.toNat := pM36
    refine g_if_eq X dX3_breaches_18 (tgt := 25) (by decide) (by omega) (fun c18 => ?_) (fun c18 => ?_)
    · refine g_iconst X dX3_breaches_25 ?_
      exact join_26.out M36 2 H locs _ (by unfold erN; grind [bZ]) qM36 hR hMI (fun h => by first | exact hPl | (exfalso; revert h; unfold erN; grind [bZ])) hk hS hM (lv_sub hl [0, 1] rfl)
    · refine g_iconst X dX3_breaches_21 ?_
      refine g_goto X dX3_breaches_22 (tgt := 26) (by decide) ?_
      exact join_26.out M36 0 H locs _ (by unfold erN; grind [bZ]) qM36 hR hMI (fun h => by first | exact hPl | (exfalso; revert h; unfold erN; grind [bZ])) hk hS hM (lv_sub hl [0, 1] rfl)
  · refine g_iconst X dX3_breaches_9 ?_
    refine g_goto X dX3_breaches_10 (tgt := 26) (by decide) ?_
    exact join_26.out M 1 s.heap [] _ (by unfold erN; grind [bZ]) (mQ.rf M) hR hMI (fun h => by first | exact hPl | (exfalso; revert h; unfold erN; grind [bZ])) hk hS hM (lv_sub hl [0, 1] rfl)
set_option maxHeartbeats 4000000 in
theorem m_phaseNow (l : Launch) (E : EP) (am : Nat → Nat) (S : GS) (M : MS) (H : Heap) (hM : MP E am M H) (hI : gI S) (hR : MR S M) (hMI : mI M) (j : Int) (hj : -2147483648 ≤ j ∧ j ≤ 2147483647) : gMi l E yX3_phaseNow cX3_phaseNow 2 .int 5 0 0 H [.ref (am 0), .int (iI j)] (mW am) (fun z H1 => ∃ M1, MP E am M1 H1 ∧ M1 0 0 = erN S j ∧ (erN S j = 0 → z = mPh S (grn S j.toNat) (clr S j.toNat) M j.toNat (gNow S) true) ∧ mQ M M1) := by
  refine g_met (plainFor_of_name (by decide)) (Nat.le_of_ble_eq_true rfl) (fun P_ e_ s M_ bl mt_ c_ ls X hmeth_ hk hh hl => ?_)
  subst hh
  have X : gX P_ s M_ mt_ c_ cX3_phaseNow 2 ([.ref (am 0), .int (iI j)] : List Value).toArray RX3 (some .int) := X
  have hl : lv_has ls 2 [(0, .ref (am 0)), (1, .int (iI j))] := hl
  have hS : va_S (mW am) s.heap s.heap [] := va_S.rf
  have hn5 := hI.1.1
  have hc := hI.2.1
  have her : 0 ≤ erN S j ∧ erN S j ≤ 3 := by unfold erN; grind
  have hj0 : erN S j = 0 → (0 ≤ j ∧ j ≤ (gN S : Int) - 1) ∧ 0 ≤ lft S j.toNat := by unfold erN; grind
  have hnow := hI.1.2.2
  refine g_aload_n X dX3_phaseNow_0 rfl hl 0 rfl ?_
  have join_26 : gHide (∀ (Mx : MS) (z : Int) (H : Heap) (locs : List Loc) (ls : Array Slot), z = (erN S j) → (mQ M Mx) → (MR S Mx) → (mI Mx) → (erN S j = 0 → mPl S Mx j.toNat) → (kk E s H) → (va_S (mW am) s.heap H locs) → (MP E am Mx H) → lv_has ls 2 [(0, .ref (am 0)), (1, .int (iI j))] → W P_ l e_ (gR 5 0 0) s M_ ([.ref (am 0), .int (iI j)] : List Value).toArray bl mt_ c_ H locs 0 0 (MQ bl (gQi (mW am) (fun z H1 => ∃ M1, MP E am M1 H1 ∧ M1 0 0 = erN S j ∧ (erN S j = 0 → z = mPh S (grn S j.toNat) (clr S j.toNat) M j.toNat (gNow S) true) ∧ mQ M M1)) ([.ref (am 0), .int (iI j)] : List Value).toArray s 0 0 (mW am)) (F0 M_ 26 ls [.int (iI z), .ref (am 0)])) := by
    intro Mx z H locs ls e_z hQ hR hMI hP9 hk hS hM hl
    subst e_z
    have hl : lv_has ls 2 [(0, .ref (am 0)), (1, .int (iI j))] := hl
    refine g_calli (g_runV X hk (As := [.int (iI (erN S j))]) (rest := []) rfl (MP.O hM) (m_holds l E am Mx H hM (erN S j) (by omega)) 1 (lw_V q694 q696 qs15 q48 q697) (by decide +kernel) ⟨⟨Nat.le_of_ble_eq_true rfl, Nat.le_of_ble_eq_true rfl⟩, Nat.le_of_ble_eq_true rfl, Nat.le_of_ble_eq_true rfl⟩ rfl rfl hl.1 (Nat.le_of_ble_eq_true rfl) dX3_phaseNow_26) hk hS (fun q h => h) (MP.N hM) (fun z_ H locs hP_ hk hz_ ho_ hS => ?_)
    obtain ⟨hz0_, hM⟩ := hP_
    subst hz0_
    obtain ⟨M37, eM37⟩ : ∃ M_ : MS, M_ = mset Mx 0 0 (erN S j) := ⟨_, rfl⟩
    rw [← eM37] at hM
    have qM37 : mQ Mx M37 := by rw [eM37]; exact mset_Q Mx (Or.inl rfl)
    have tM37 : M37 0 0 = (erN S j) := by rw [eM37]; exact mset_s _ _ _ _
    have zM37 : ∀ f i, f ≠ 0 → M37 f i = Mx f i := fun f i hf => by rw [eM37]; exact mset_n _ _ (fun e => hf e.1)
    have hR : MR S M37 := hR.Q qM37
    have hMI : mI M37 := hMI.Q qM37
    have hz9 := bZ_le (decide (erN S j = 0))
    refine g_if_eq X dX3_phaseNow_29 (tgt := 45) (by decide) (by omega) (fun c29 => ?_) (fun c29 => ?_)
    · refine g_iconst X dX3_phaseNow_45 ?_
      exact g_iret X hS (⟨M37, hM, by grind, fun h => by first | exact hmp | exact absurd h (by grind [bZ]), (hQ).trans qM37⟩) ⟨Nat.le_of_ble_eq_true rfl, Nat.le_of_ble_eq_true rfl⟩ dX3_phaseNow_46
    · have hz : erN S j = 0 := by grind [bZ]
      have hj1 := hj0 hz
      have hPl := hP9 hz
      have hPl : mPl S M37 j.toNat := hPl.Z zM37
      have hgb : ∀ p, p < gNp S j.toNat → (0 ≤ grn S j.toNat p ∧ grn S j.toNat p ≤ 1000) ∧ 0 ≤ clr S j.toNat p ∧ clr S j.toNat p ≤ 1000 := fun p hp => by
        have h1 := grn_b hI (show j.toNat < gN S by omega) hj1.2 hp
        have h2 := clr_b (hI.2.2 j.toNat (by omega)) p
        omega
      have hmp : mPh S (grn S j.toNat) (clr S j.toNat) M37 j.toNat (gNow S) true = mPh S (grn S j.toNat) (clr S j.toNat) M j.toNat (gNow S) true := mPh_Q ((hQ).trans qM37)
      refine g_aload_n X dX3_phaseNow_32 rfl hl 0 rfl ?_
      refine g_iload_n X dX3_phaseNow_33 rfl hl 1 rfl ?_
      refine g_aload_n X dX3_phaseNow_34 rfl hl 0 rfl ?_
      refine g_get X hk (v := .int (iI (gNow S))) in_X3 rfl (MP.O hM) 14 (by decide) q615 (sI (MR.now hR)) dX3_phaseNow_35 ?_
      refine g_iconst X dX3_phaseNow_38 ?_
      have hcj_ := m_phaseAt l E am S M37 H hM hI hR j.toNat (by omega) (gNow S) (by omega) true hMI (grn S j.toNat) (clr S j.toNat) hPl hgb
      rw [Int.toNat_of_nonneg (show 0 ≤ j by omega)] at hcj_
      refine g_pV X hk (As := [.int (iI j), .int (iI (gNow S)), .int (iI 1)]) (rest := []) rfl (MP.O hM) (hcj_) 3 (lw_V q791 q793 qs31 q48 q794) (by decide +kernel) ⟨⟨Nat.le_of_ble_eq_true rfl, Nat.le_of_ble_eq_true rfl⟩, Nat.le_of_ble_eq_true rfl, Nat.le_of_ble_eq_true rfl⟩ rfl rfl hl.1 (Nat.le_of_ble_eq_true rfl) dX3_phaseNow_39 ?_
      refine g_goto X dX3_phaseNow_42 (tgt := 46) (by decide) ?_
      exact g_iret X hS (⟨M37, hM, by grind, fun h => by first | exact hmp | exact absurd h (by grind [bZ]), (hQ).trans qM37⟩) ⟨Nat.le_of_ble_eq_true rfl, Nat.le_of_ble_eq_true rfl⟩ dX3_phaseNow_46
  refine g_aload_n X dX3_phaseNow_1 rfl hl 0 rfl ?_
  refine g_iload_n X dX3_phaseNow_2 rfl hl 1 rfl ?_
  refine g_pV X hk (As := [.int (iI j)]) (rest := [.ref (am 0)]) rfl (MP.O hM) (m_isJunction l E am S M s.heap hM hI hR j (by omega)) 1 (lw_V q706 q708 qs17 q48 q709) (by decide +kernel) ⟨⟨Nat.le_of_ble_eq_true rfl, Nat.le_of_ble_eq_true rfl⟩, Nat.le_of_ble_eq_true rfl, Nat.le_of_ble_eq_true rfl⟩ rfl rfl hl.1 (Nat.le_of_ble_eq_true rfl) dX3_phaseNow_3 ?_
  have h6 := bZ_le (decide (0 ≤ j ∧ j ≤ (gN S : Int) - 1))
  refine g_if_ne X dX3_phaseNow_6 (tgt := 13) (by decide) (by omega) (fun c6 => ?_) (fun c6 => ?_)
  · have hj1 : 0 ≤ j ∧ j ≤ (gN S : Int) - 1 := by grind [bZ]
    refine g_aload_n X dX3_phaseNow_13 rfl hl 0 rfl ?_
    refine g_iload_n X dX3_phaseNow_14 rfl hl 1 rfl ?_
    have hcj_ := m_isPlanned l E am S M s.heap hM hI hR j.toNat (by omega)
    rw [Int.toNat_of_nonneg (show 0 ≤ j by omega)] at hcj_
    refine g_calli (g_runV X hk (As := [.int (iI j)]) (rest := [.ref (am 0)]) rfl (MP.O hM) (hcj_) 1 (lw_V q811 q813 qs34 q48 q814) (by decide +kernel) ⟨⟨Nat.le_of_ble_eq_true rfl, Nat.le_of_ble_eq_true rfl⟩, Nat.le_of_ble_eq_true rfl, Nat.le_of_ble_eq_true rfl⟩ rfl rfl hl.1 (Nat.le_of_ble_eq_true rfl) dX3_phaseNow_15) hk hS (fun q h => h) (MP.N hM) (fun z_ H locs hP_ hk hz_ ho_ hS => ?_)
    obtain ⟨hz0_, hP_⟩ := hP_
    subst hz0_
    obtain ⟨M38, hM, xM38, pM38⟩ := hP_
    have qM38 := xM38.Q
    have tM38 := xM38.t
    have hR : MR S M38 := hR.Q qM38
    have hMI : mI M38 := hMI.Q qM38
    have hap := bZ_le (decide (0 ≤ lft S j.toNat))
    have hPl : mPl S M38 j.toNat := pM38
    refine g_if_eq X dX3_phaseNow_18 (tgt := 25) (by decide) (by omega) (fun c18 => ?_) (fun c18 => ?_)
    · refine g_iconst X dX3_phaseNow_25 ?_
      exact join_26.out M38 2 H locs _ (by unfold erN; grind [bZ]) qM38 hR hMI (fun h => by first | exact hPl | (exfalso; revert h; unfold erN; grind [bZ])) hk hS hM (lv_sub hl [0, 1] rfl)
    · refine g_iconst X dX3_phaseNow_21 ?_
      refine g_goto X dX3_phaseNow_22 (tgt := 26) (by decide) ?_
      exact join_26.out M38 0 H locs _ (by unfold erN; grind [bZ]) qM38 hR hMI (fun h => by first | exact hPl | (exfalso; revert h; unfold erN; grind [bZ])) hk hS hM (lv_sub hl [0, 1] rfl)
  · refine g_iconst X dX3_phaseNow_9 ?_
    refine g_goto X dX3_phaseNow_10 (tgt := 26) (by decide) ?_
    exact join_26.out M 1 s.heap [] _ (by unfold erN; grind [bZ]) (mQ.rf M) hR hMI (fun h => by first | exact hPl | (exfalso; revert h; unfold erN; grind [bZ])) hk hS hM (lv_sub hl [0, 1] rfl)
set_option maxHeartbeats 4000000 in
theorem m_band (l : Launch) (E : EP) (am : Nat → Nat) (S : GS) (M : MS) (H : Heap) (hM : MP E am M H) (hI : gI S) (hR : MR S M) (hMI : mI M) (f : Bool) : gMi l E yX3_band cX3_band 2 .int 6 0 0 H [.ref (am 0), .int (iI (bZ f))] (mW am) (fun z H1 => ∃ M1, MP E am M1 H1 ∧ M1 0 0 = erD S ∧ (erD S = 0 → z = bnd S f) ∧ mQ M M1) := by
  refine g_met (plainFor_of_name (by decide)) (Nat.le_of_ble_eq_true rfl) (fun P_ e_ s M_ bl mt_ c_ ls X hmeth_ hk hh hl => ?_)
  subst hh
  have X : gX P_ s M_ mt_ c_ cX3_band 2 ([.ref (am 0), .int (iI (bZ f))] : List Value).toArray RX3 (some .int) := X
  have hl : lv_has ls 2 [(0, .ref (am 0)), (1, .int (iI (bZ f)))] := hl
  have hS : va_S (mW am) s.heap s.heap [] := va_S.rf
  have hn5 := hI.1.1
  have her : 0 ≤ erD S ∧ erD S ≤ 3 := by unfold erD; grind
  refine g_aload_n X dX3_band_0 rfl hl 0 rfl ?_
  have join_13 : gHide (∀ (Mx : MS) (z : Int) (H : Heap) (locs : List Loc) (ls : Array Slot), z = (erD S) → (mQ M Mx) → (MR S Mx) → (mI Mx) → (∀ j, j < gN S → mPl S Mx j) → (kk E s H) → (va_S (mW am) s.heap H locs) → (MP E am Mx H) → lv_has ls 2 [(0, .ref (am 0)), (1, .int (iI (bZ f)))] → W P_ l e_ (gR 6 0 0) s M_ ([.ref (am 0), .int (iI (bZ f))] : List Value).toArray bl mt_ c_ H locs 0 0 (MQ bl (gQi (mW am) (fun z H1 => ∃ M1, MP E am M1 H1 ∧ M1 0 0 = erD S ∧ (erD S = 0 → z = bnd S f) ∧ mQ M M1)) ([.ref (am 0), .int (iI (bZ f))] : List Value).toArray s 0 0 (mW am)) (F0 M_ 13 ls [.int (iI z), .ref (am 0)])) := by
    intro Mx z H locs ls e_z hQ hR hMI hP9 hk hS hM hl
    subst e_z
    have hl : lv_has ls 2 [(0, .ref (am 0)), (1, .int (iI (bZ f)))] := hl
    refine g_calli (g_runV X hk (As := [.int (iI (erD S))]) (rest := []) rfl (MP.O hM) (m_holds l E am Mx H hM (erD S) (by omega)) 1 (lw_V q694 q696 qs15 q48 q697) (by decide +kernel) ⟨⟨Nat.le_of_ble_eq_true rfl, Nat.le_of_ble_eq_true rfl⟩, Nat.le_of_ble_eq_true rfl, Nat.le_of_ble_eq_true rfl⟩ rfl rfl hl.1 (Nat.le_of_ble_eq_true rfl) dX3_band_13) hk hS (fun q h => h) (MP.N hM) (fun z_ H locs hP_ hk hz_ ho_ hS => ?_)
    obtain ⟨hz0_, hM⟩ := hP_
    subst hz0_
    obtain ⟨M39, eM39⟩ : ∃ M_ : MS, M_ = mset Mx 0 0 (erD S) := ⟨_, rfl⟩
    rw [← eM39] at hM
    have qM39 : mQ Mx M39 := by rw [eM39]; exact mset_Q Mx (Or.inl rfl)
    have tM39 : M39 0 0 = (erD S) := by rw [eM39]; exact mset_s _ _ _ _
    have zM39 : ∀ f i, f ≠ 0 → M39 f i = Mx f i := fun f i hf => by rw [eM39]; exact mset_n _ _ (fun e => hf e.1)
    have hR : MR S M39 := hR.Q qM39
    have hMI : mI M39 := hMI.Q qM39
    have hz9 := bZ_le (decide (erD S = 0))
    refine g_if_eq X dX3_band_16 (tgt := 27) (by decide) (by omega) (fun c16 => ?_) (fun c16 => ?_)
    · refine g_iconst X dX3_band_27 ?_
      exact g_iret X hS (⟨M39, hM, by grind, fun h => by grind [bZ], (hQ).trans qM39⟩) ⟨Nat.le_of_ble_eq_true rfl, Nat.le_of_ble_eq_true rfl⟩ dX3_band_28
    · have hz : erD S = 0 := by grind [bZ]
      have hL : ∀ j, j < gN S → 0 ≤ lft S j := (alP_iff S (gN S)).mp (by revert hz; unfold erD; grind)
      have hPl : ∀ j, j < gN S → mPl S M39 j := fun j hj => (hP9 j hj).Z zM39
      refine g_aload_n X dX3_band_19 rfl hl 0 rfl ?_
      refine g_iload_n X dX3_band_20 rfl hl 1 rfl ?_
      refine g_pV X hk (As := [.int (iI (bZ f))]) (rest := []) rfl (MP.O hM) (m_bandOf l E am S M39 H hM hI hR f hMI hL hPl) 1 (lw_V q779 q781 qs28 q48 q782) (by decide +kernel) ⟨⟨Nat.le_of_ble_eq_true rfl, Nat.le_of_ble_eq_true rfl⟩, Nat.le_of_ble_eq_true rfl, Nat.le_of_ble_eq_true rfl⟩ rfl rfl hl.1 (Nat.le_of_ble_eq_true rfl) dX3_band_21 ?_
      refine g_goto X dX3_band_24 (tgt := 28) (by decide) ?_
      exact g_iret X hS (⟨M39, hM, by grind, fun h => by grind [bZ], (hQ).trans qM39⟩) ⟨Nat.le_of_ble_eq_true rfl, Nat.le_of_ble_eq_true rfl⟩ dX3_band_28
  refine g_aload_n X dX3_band_1 rfl hl 0 rfl ?_
  refine g_calli (g_runV X hk (As := []) (rest := [.ref (am 0)]) rfl (MP.O hM) (m_plansAll l E am S M s.heap hM hI hR) 0 (lw_V q751 q753 qs21 q48 q754) (by decide +kernel) ⟨⟨Nat.le_of_ble_eq_true rfl, Nat.le_of_ble_eq_true rfl⟩, Nat.le_of_ble_eq_true rfl, Nat.le_of_ble_eq_true rfl⟩ rfl rfl hl.1 (Nat.le_of_ble_eq_true rfl) dX3_band_2) hk hS (fun q h => h) (MP.N hM) (fun z_ H locs hP_ hk hz_ ho_ hS => ?_)
  obtain ⟨hz0_, hP_⟩ := hP_
  subst hz0_
  obtain ⟨M40, hM, xM40, pM40⟩ := hP_
  have qM40 := xM40.Q
  have tM40 := xM40.t
  have hR : MR S M40 := hR.Q qM40
  have hMI : mI M40 := hMI.Q qM40
  have hPl : ∀ j, j < gN S → mPl S M40 j := pM40
  have hap := bZ_le (alP S (gN S))
  refine g_if_eq X dX3_band_5 (tgt := 12) (by decide) (by omega) (fun c5 => ?_) (fun c5 => ?_)
  · refine g_iconst X dX3_band_12 ?_
    exact join_13.out M40 1 H locs _ (by unfold erD; grind [bZ]) qM40 hR hMI hPl hk hS hM (lv_sub hl [0, 1] rfl)
  · refine g_iconst X dX3_band_8 ?_
    refine g_goto X dX3_band_9 (tgt := 13) (by decide) ?_
    exact join_13.out M40 0 H locs _ (by unfold erD; grind [bZ]) qM40 hR hMI hPl hk hS hM (lv_sub hl [0, 1] rfl)
set_option maxHeartbeats 4000000 in
theorem m_junctions (l : Launch) (E : EP) (am : Nat → Nat) (S : GS) (M : MS) (H : Heap) (hM : MP E am M H) (hI : gI S) (hR : MR S M) (hMI : mI M) : gMi l E yX3_junctions cX3_junctions 1 .int 1 0 0 H [.ref (am 0)] (mW am) (fun z H1 => z = (gN S : Int) ∧ ∃ M1, MP E am M1 H1 ∧ mQ M M1) := by
  refine g_met (plainFor_of_name (by decide)) (Nat.le_of_ble_eq_true rfl) (fun P_ e_ s M_ bl mt_ c_ ls X hmeth_ hk hh hl => ?_)
  subst hh
  have X : gX P_ s M_ mt_ c_ cX3_junctions 1 ([.ref (am 0)] : List Value).toArray RX3 (some .int) := X
  have hl : lv_has ls 1 [(0, .ref (am 0))] := hl
  have hS : va_S (mW am) s.heap s.heap [] := va_S.rf
  refine g_aload_n X dX3_junctions_0 rfl hl 0 rfl ?_
  refine g_iconst X dX3_junctions_1 ?_
  refine g_put X hk hS (MP.A0 hM (Or.inl rfl)) in_X3 tyX3 tyX3_ok nmX3 rfl (MP.O hM) 0 (by decide) q601 rfl (ty := .int) (by decide +kernel) (rfl) rfl (Nat.le_of_ble_eq_true rfl) dX3_junctions_2 (fun H locs hc_ hk hz_ ho_ hS => ?_)
  obtain ⟨M41, eM41⟩ : ∃ M_ : MS, M_ = mset M 0 0 0 := ⟨_, rfl⟩
  have hM : MP E am M41 H := by rw [eM41]; exact MP.put hM 0 rfl hc_ ho_
  have gM41 : ∀ f i, M41 f i = if f = 0 ∧ i = 0 then 0 else M f i := by intro f i; rw [eM41]; rfl
  have hR : MR S M41 := by rw [eM41]; exact MR.ign hR rfl
  refine g_aload_n X dX3_junctions_5 rfl hl 0 rfl ?_
  refine g_get X hk (v := .int (iI (((gN S) : Nat) : Int))) in_X3 rfl (MP.O hM) 1 (by decide) q602 (sI (MR.n hR)) dX3_junctions_6 ?_
  exact g_iret X hS (⟨by first | rfl | (rw [gM41, if_neg (by omega)]), M41, hM, by rw [eM41]; exact mset_Q M (Or.inl rfl)⟩) ⟨Nat.le_of_ble_eq_true rfl, Nat.le_of_ble_eq_true rfl⟩ dX3_junctions_9
set_option maxHeartbeats 4000000 in
theorem m_clock (l : Launch) (E : EP) (am : Nat → Nat) (S : GS) (M : MS) (H : Heap) (hM : MP E am M H) (hI : gI S) (hR : MR S M) (hMI : mI M) : gMi l E yX3_clock cX3_clock 1 .int 1 0 0 H [.ref (am 0)] (mW am) (fun z H1 => z = gNow S ∧ ∃ M1, MP E am M1 H1 ∧ mQ M M1) := by
  refine g_met (plainFor_of_name (by decide)) (Nat.le_of_ble_eq_true rfl) (fun P_ e_ s M_ bl mt_ c_ ls X hmeth_ hk hh hl => ?_)
  subst hh
  have X : gX P_ s M_ mt_ c_ cX3_clock 1 ([.ref (am 0)] : List Value).toArray RX3 (some .int) := X
  have hl : lv_has ls 1 [(0, .ref (am 0))] := hl
  have hS : va_S (mW am) s.heap s.heap [] := va_S.rf
  refine g_aload_n X dX3_clock_0 rfl hl 0 rfl ?_
  refine g_iconst X dX3_clock_1 ?_
  refine g_put X hk hS (MP.A0 hM (Or.inl rfl)) in_X3 tyX3 tyX3_ok nmX3 rfl (MP.O hM) 0 (by decide) q601 rfl (ty := .int) (by decide +kernel) (rfl) rfl (Nat.le_of_ble_eq_true rfl) dX3_clock_2 (fun H locs hc_ hk hz_ ho_ hS => ?_)
  obtain ⟨M42, eM42⟩ : ∃ M_ : MS, M_ = mset M 0 0 0 := ⟨_, rfl⟩
  have hM : MP E am M42 H := by rw [eM42]; exact MP.put hM 0 rfl hc_ ho_
  have gM42 : ∀ f i, M42 f i = if f = 0 ∧ i = 0 then 0 else M f i := by intro f i; rw [eM42]; rfl
  have hR : MR S M42 := by rw [eM42]; exact MR.ign hR rfl
  refine g_aload_n X dX3_clock_5 rfl hl 0 rfl ?_
  refine g_get X hk (v := .int (iI (gNow S))) in_X3 rfl (MP.O hM) 14 (by decide) q615 (sI (MR.now hR)) dX3_clock_6 ?_
  exact g_iret X hS (⟨by first | rfl | (rw [gM42, if_neg (by omega)]), M42, hM, by rw [eM42]; exact mset_Q M (Or.inl rfl)⟩) ⟨Nat.le_of_ble_eq_true rfl, Nat.le_of_ble_eq_true rfl⟩ dX3_clock_9
set_option maxHeartbeats 4000000 in
theorem m_come (l : Launch) (E : EP) (am : Nat → Nat) (S : GS) (M : MS) (H : Heap) (hM : MP E am M H) (hI : gI S) (hR : MR S M) (hMI : mI M) : gMi l E yX3_come cX3_come 1 .int 1 0 0 H [.ref (am 0)] (mW am) (fun z H1 => z = M 16 0 ∧ ∃ M1, MP E am M1 H1 ∧ mQ M M1) := by
  refine g_met (plainFor_of_name (by decide)) (Nat.le_of_ble_eq_true rfl) (fun P_ e_ s M_ bl mt_ c_ ls X hmeth_ hk hh hl => ?_)
  subst hh
  have X : gX P_ s M_ mt_ c_ cX3_come 1 ([.ref (am 0)] : List Value).toArray RX3 (some .int) := X
  have hl : lv_has ls 1 [(0, .ref (am 0))] := hl
  have hS : va_S (mW am) s.heap s.heap [] := va_S.rf
  refine g_aload_n X dX3_come_0 rfl hl 0 rfl ?_
  refine g_iconst X dX3_come_1 ?_
  refine g_put X hk hS (MP.A0 hM (Or.inl rfl)) in_X3 tyX3 tyX3_ok nmX3 rfl (MP.O hM) 0 (by decide) q601 rfl (ty := .int) (by decide +kernel) (rfl) rfl (Nat.le_of_ble_eq_true rfl) dX3_come_2 (fun H locs hc_ hk hz_ ho_ hS => ?_)
  obtain ⟨M43, eM43⟩ : ∃ M_ : MS, M_ = mset M 0 0 0 := ⟨_, rfl⟩
  have hM : MP E am M43 H := by rw [eM43]; exact MP.put hM 0 rfl hc_ ho_
  have gM43 : ∀ f i, M43 f i = if f = 0 ∧ i = 0 then 0 else M f i := by intro f i; rw [eM43]; rfl
  have hR : MR S M43 := by rw [eM43]; exact MR.ign hR rfl
  refine g_aload_n X dX3_come_5 rfl hl 0 rfl ?_
  refine g_get X hk (v := .int (iI (M43 16 0))) in_X3 rfl (MP.O hM) 16 (by decide) q617 (rfl) dX3_come_6 ?_
  exact g_iret X hS (⟨by first | rfl | (rw [gM43, if_neg (by omega)]), M43, hM, by rw [eM43]; exact mset_Q M (Or.inl rfl)⟩) ⟨Nat.le_of_ble_eq_true rfl, Nat.le_of_ble_eq_true rfl⟩ dX3_come_9
set_option maxHeartbeats 4000000 in
theorem m_through (l : Launch) (E : EP) (am : Nat → Nat) (S : GS) (M : MS) (H : Heap) (hM : MP E am M H) (hI : gI S) (hR : MR S M) (hMI : mI M) : gMi l E yX3_through cX3_through 1 .int 1 0 0 H [.ref (am 0)] (mW am) (fun z H1 => z = M 17 0 ∧ ∃ M1, MP E am M1 H1 ∧ mQ M M1) := by
  refine g_met (plainFor_of_name (by decide)) (Nat.le_of_ble_eq_true rfl) (fun P_ e_ s M_ bl mt_ c_ ls X hmeth_ hk hh hl => ?_)
  subst hh
  have X : gX P_ s M_ mt_ c_ cX3_through 1 ([.ref (am 0)] : List Value).toArray RX3 (some .int) := X
  have hl : lv_has ls 1 [(0, .ref (am 0))] := hl
  have hS : va_S (mW am) s.heap s.heap [] := va_S.rf
  refine g_aload_n X dX3_through_0 rfl hl 0 rfl ?_
  refine g_iconst X dX3_through_1 ?_
  refine g_put X hk hS (MP.A0 hM (Or.inl rfl)) in_X3 tyX3 tyX3_ok nmX3 rfl (MP.O hM) 0 (by decide) q601 rfl (ty := .int) (by decide +kernel) (rfl) rfl (Nat.le_of_ble_eq_true rfl) dX3_through_2 (fun H locs hc_ hk hz_ ho_ hS => ?_)
  obtain ⟨M44, eM44⟩ : ∃ M_ : MS, M_ = mset M 0 0 0 := ⟨_, rfl⟩
  have hM : MP E am M44 H := by rw [eM44]; exact MP.put hM 0 rfl hc_ ho_
  have gM44 : ∀ f i, M44 f i = if f = 0 ∧ i = 0 then 0 else M f i := by intro f i; rw [eM44]; rfl
  have hR : MR S M44 := by rw [eM44]; exact MR.ign hR rfl
  refine g_aload_n X dX3_through_5 rfl hl 0 rfl ?_
  refine g_get X hk (v := .int (iI (M44 17 0))) in_X3 rfl (MP.O hM) 17 (by decide) q618 (rfl) dX3_through_6 ?_
  exact g_iret X hS (⟨by first | rfl | (rw [gM44, if_neg (by omega)]), M44, hM, by rw [eM44]; exact mset_Q M (Or.inl rfl)⟩) ⟨Nat.le_of_ble_eq_true rfl, Nat.le_of_ble_eq_true rfl⟩ dX3_through_9
