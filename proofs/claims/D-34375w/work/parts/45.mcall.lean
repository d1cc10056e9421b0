/-! the reference: a bus calls -/
/-- the phase by the plan, now; who gives, how much; the greens then; the state then -/
def cbL (S : GS) (j : Nat) : Int := (gNow S - gOff S j) % gCyc S
def cbP (S : GS) (j : Nat) : Int := phA (grn S j) (clr S j) (gNp S j) 0 (cbL S j)
def cbA (S : GS) (j : Nat) (v : Int) : Bool := decide (cbP S j = (low S j v : Int) ∧ low S j v + 1 < gNp S j)
def cbB (S : GS) (j : Nat) (v : Int) : Bool := decide (¬ cbP S j = -1 ∧ cbP S j < (low S j v : Int))
def cbG (S : GS) (j : Nat) (v : Int) : Nat := if cbA S j v = true then low S j v + 1 else if cbB S j v = true then (cbP S j).toNat else low S j v
def cbZ (S : GS) (j : Nat) (v : Int) : Int := if cbA S j v = true then min 5 (grn S j (low S j v + 1) - lst S j (low S j v + 1)) else if cbB S j v = true then min (min 5 (begK (grn S j) (clr S j) (cbP S j).toNat + grn S j (cbP S j).toNat - cbL S j - 1)) (grn S j (cbP S j).toNat - lst S j (cbP S j).toNat) else 0
def cbM (S : GS) (j : Nat) (v : Int) (M : MS) (f i : Nat) : Int := if f = 26 ∧ i = j then cbZ S j v else if f = 25 ∧ i = j then (cbG S j v : Int) else if f = 24 ∧ i = j then (low S j v : Int) else if f = 23 ∧ i = j then (gNow S - gOff S j) / gCyc S else if f = 22 ∧ i = j then 1 else if f = 3 ∧ i = 0 then 1 else M f i
set_option maxHeartbeats 4000000 in
theorem m_errorOfCall (l : Launch) (E : EP) (am : Nat → Nat) (S : GS) (M : MS) (H : Heap) (hM : MP E am M H) (hI : gI S) (hR : MR S M) (hMI : mI M) (hMC : MC S M) (j v : Int) (hj : -2147483648 ≤ j ∧ j ≤ 2147483647) (hv : -2147483648 ≤ v ∧ v ≤ 2147483647) : gMi l E yX3_errorOfCall cX3_errorOfCall 4 .int 4 0 0 H [.ref (am 0), .int (iI j), .int (iI v)] (mW am) (fun z H1 => z = erU S j v ∧ ∃ M1, MP E am M1 H1 ∧ mT M M1 ∧ (erU S j v = 0 → ∀ i, i < gN S → mPl S M1 i)) := by
  refine g_met (plainFor_of_name (by decide)) (Nat.le_of_ble_eq_true rfl) (fun P_ e_ s M_ bl mt_ c_ ls X hmeth_ hk hh hl => ?_)
  subst hh
  have X : gX P_ s M_ mt_ c_ cX3_errorOfCall 4 ([.ref (am 0), .int (iI j), .int (iI v)] : List Value).toArray RX3 (some .int) := X
  have hl : lv_has ls 4 [(0, .ref (am 0)), (1, .int (iI j)), (2, .int (iI v))] := hl
  have hS : va_S (mW am) s.heap s.heap [] := va_S.rf
  have hn5 := hI.1.1
  have hc := hI.2.1
  have hnow := hI.1.2.2
  refine g_aload_n X dX3_errorOfCall_0 rfl hl 0 rfl ?_
  refine g_iload_n X dX3_errorOfCall_1 rfl hl 1 rfl ?_
  refine g_pV X hk (As := [.int (iI j)]) (rest := []) rfl (MP.O hM) (m_isJunction l E am S M s.heap hM hI hR j (by omega)) 1 (lw_V q706 q708 qs17 q48 q709) (by decide +kernel) ⟨⟨Nat.le_of_ble_eq_true rfl, Nat.le_of_ble_eq_true rfl⟩, Nat.le_of_ble_eq_true rfl, Nat.le_of_ble_eq_true rfl⟩ rfl rfl hl.1 (Nat.le_of_ble_eq_true rfl) dX3_errorOfCall_2 ?_
  have h5 := bZ_le (decide (0 ≤ j ∧ j ≤ (gN S : Int) - 1))
  refine g_if_eq X dX3_errorOfCall_5 (tgt := 15) (by decide) (by omega) (fun c5 => ?_) (fun c5 => ?_)
  · have hV : ¬ ((0 ≤ j ∧ j ≤ (gN S : Int) - 1) ∧ (0 ≤ v ∧ v ≤ 3)) := by grind [bZ]
    refine g_iconst X dX3_errorOfCall_15 ?_
    exact g_iret X hS (⟨by unfold erU; rw [if_pos hV], M, hM, mT.rf M, fun h => absurd h (by unfold erU; rw [if_pos hV]; omega)⟩) ⟨Nat.le_of_ble_eq_true rfl, Nat.le_of_ble_eq_true rfl⟩ dX3_errorOfCall_16
  · refine g_iload_n X dX3_errorOfCall_8 rfl hl 2 rfl ?_
    refine g_pS X hk (As := [.int (iI v)]) (rest := []) (m_isMovement l E v s.heap (by omega)) 1 (lw_S q710 q711 q48 q712) (by decide +kernel) ⟨⟨Nat.le_of_ble_eq_true rfl, Nat.le_of_ble_eq_true rfl⟩, Nat.le_of_ble_eq_true rfl, Nat.le_of_ble_eq_true rfl⟩ rfl rfl hl.1 (Nat.le_of_ble_eq_true rfl) dX3_errorOfCall_9 ?_
    have h12 := bZ_le (decide (0 ≤ v ∧ v ≤ 3))
    refine g_if_ne X dX3_errorOfCall_12 (tgt := 17) (by decide) (by omega) (fun c12 => ?_) (fun c12 => ?_)
    · have hV : (0 ≤ j ∧ j ≤ (gN S : Int) - 1) ∧ (0 ≤ v ∧ v ≤ 3) := by grind [bZ]
      have hm9 := hMI j.toNat (by omega)
      have hch := (hMC j.toNat (by omega)).cg hI (by have := (hI.2.2 j.toNat (by omega)).1; omega) (gNow S)
      have hch2 : chg S j.toNat (gNow S) = (decide (¬ M 22 j.toNat = 0) && decide (M 23 j.toNat = (gNow S - gOff S j.toNat) / gCyc S)) := by rw [hch]; simp [mcal]
      have hof := (hI.2.2 j.toNat (by omega)).2.2.2.2.1
      have hcb := fl_b (A := 7300) (show 0 < gCyc S by omega) (show -7300 ≤ gNow S - gOff S j.toNat ∧ gNow S - gOff S j.toNat ≤ 7300 by omega)
      have hnpj := (hI.2.2 j.toNat (by omega)).1
      have hlw := lowK_le S j.toNat v (gNp S j.toNat) 0
      have hlw : low S j.toNat v ≤ gNp S j.toNat := by unfold low; omega
      refine g_aload_n X dX3_errorOfCall_17 rfl hl 0 rfl ?_
      have join_49 : gHide (∀ (z : Int) (ls : Array Slot), z = (bZ (chg S j.toNat (gNow S))) → lv_has ls 4 [(0, .ref (am 0)), (1, .int (iI j)), (2, .int (iI v))] → W P_ l e_ (gR 4 0 0) s M_ ([.ref (am 0), .int (iI j), .int (iI v)] : List Value).toArray bl mt_ c_ s.heap [] 0 0 (MQ bl (gQi (mW am) (fun z H1 => z = erU S j v ∧ ∃ M1, MP E am M1 H1 ∧ mT M M1 ∧ (erU S j v = 0 → ∀ i, i < gN S → mPl S M1 i))) ([.ref (am 0), .int (iI j), .int (iI v)] : List Value).toArray s 0 0 (mW am)) (F0 M_ 49 ls [.int (iI z)])) := by
        intro z ls e_z hl
        subst e_z
        have hl : lv_has ls 4 [(0, .ref (am 0)), (1, .int (iI j)), (2, .int (iI v))] := hl
        have h49 := bZ_le (chg S j.toNat (gNow S))
        refine g_istore_n (lv' := [(3, .int (iI (bZ (chg S j.toNat (gNow S))))), (0, .ref (am 0)), (1, .int (iI j)), (2, .int (iI v))]) X dX3_errorOfCall_49 rfl hl (by decide) rfl (fun ls hl => ?_)
        refine g_aload_n X dX3_errorOfCall_50 rfl hl 1 rfl ?_
        refine g_calli (g_runV X hk (As := []) (rest := []) rfl (MP.O hM) (m_plansAll l E am S M s.heap hM hI hR) 0 (lw_V q751 q753 qs21 q48 q754) (by decide +kernel) ⟨⟨Nat.le_of_ble_eq_true rfl, Nat.le_of_ble_eq_true rfl⟩, Nat.le_of_ble_eq_true rfl, Nat.le_of_ble_eq_true rfl⟩ rfl rfl hl.1 (Nat.le_of_ble_eq_true rfl) dX3_errorOfCall_51) hk hS (fun q h => h) (MP.N hM) (fun z_ H locs hP_ hk hz_ ho_ hS => ?_)
        obtain ⟨hz0_, hP_⟩ := hP_
        subst hz0_
        obtain ⟨M81, hM, xM81, pM81⟩ := hP_
        have qM81 := xM81.Q
        have tM81 := xM81.t
        have hR : MR S M81 := hR.Q qM81
        have hMI : mI M81 := hMI.Q qM81
        have hPl : ∀ j, j < gN S → mPl S M81 j := pM81
        have hap := bZ_le (alP S (gN S))
        refine g_if_eq X dX3_errorOfCall_54 (tgt := 71) (by decide) (by omega) (fun c54 => ?_) (fun c54 => ?_)
        · refine g_iconst X dX3_errorOfCall_71 ?_
          refine g_goto X dX3_errorOfCall_72 (tgt := 76) (by decide) ?_
          exact g_iret X hS (⟨by unfold erU; rw [if_neg (fun q => q hV)]; grind [bZ], M81, hM, xM81, fun _ => hPl⟩) ⟨Nat.le_of_ble_eq_true rfl, Nat.le_of_ble_eq_true rfl⟩ dX3_errorOfCall_76
        · refine g_aload_n X dX3_errorOfCall_57 rfl hl 1 rfl ?_
          refine g_iload_n X dX3_errorOfCall_58 rfl hl 2 rfl ?_
          refine g_iload_n X dX3_errorOfCall_59 rfl hl 3 rfl ?_
          have hcj_ := m_phaseOf l E am S M81 H hM hI hR j.toNat (by omega) v
          rw [Int.toNat_of_nonneg (show 0 ≤ j by omega)] at hcj_
          refine g_pV X hk (As := [.int (iI j), .int (iI v)]) (rest := []) rfl (MP.O hM) (hcj_) 2 (lw_V q880 q882 qs42 q48 q883) (by decide +kernel) ⟨⟨Nat.le_of_ble_eq_true rfl, Nat.le_of_ble_eq_true rfl⟩, Nat.le_of_ble_eq_true rfl, Nat.le_of_ble_eq_true rfl⟩ rfl rfl hl.1 (Nat.le_of_ble_eq_true rfl) dX3_errorOfCall_60 ?_
          refine g_iconst X dX3_errorOfCall_63 ?_
          refine g_icmp_eq X dX3_errorOfCall_64 (tgt := 71) (by decide) (by split <;> omega) (fun c64 => ?_) (fun c64 => ?_)
          · refine g_iconst X dX3_errorOfCall_71 ?_
            refine g_goto X dX3_errorOfCall_72 (tgt := 76) (by decide) ?_
            exact g_iret X hS (⟨by unfold erU; rw [if_neg (fun q => q hV)]; grind [bZ], M81, hM, xM81, fun _ => hPl⟩) ⟨Nat.le_of_ble_eq_true rfl, Nat.le_of_ble_eq_true rfl⟩ dX3_errorOfCall_76
          · refine g_iload_n X dX3_errorOfCall_67 rfl hl 0 rfl ?_
            refine g_if_eq X dX3_errorOfCall_68 (tgt := 75) (by decide) (by omega) (fun c68 => ?_) (fun c68 => ?_)
            · refine g_iconst X dX3_errorOfCall_75 ?_
              exact g_iret X hS (⟨by unfold erU; rw [if_neg (fun q => q hV)]; grind [bZ], M81, hM, xM81, fun _ => hPl⟩) ⟨Nat.le_of_ble_eq_true rfl, Nat.le_of_ble_eq_true rfl⟩ dX3_errorOfCall_76
            · refine g_iconst X dX3_errorOfCall_71 ?_
              refine g_goto X dX3_errorOfCall_72 (tgt := 76) (by decide) ?_
              exact g_iret X hS (⟨by unfold erU; rw [if_neg (fun q => q hV)]; grind [bZ], M81, hM, xM81, fun _ => hPl⟩) ⟨Nat.le_of_ble_eq_true rfl, Nat.le_of_ble_eq_true rfl⟩ dX3_errorOfCall_76
      refine g_get X hk (v := .ref (am 22)) in_X3 rfl (MP.O hM) 22 (by decide) q623 (rfl) dX3_errorOfCall_18 ?_
      refine g_iload_n X dX3_errorOfCall_21 rfl hl 1 rfl ?_
      refine g_baldv X hk (j := j.toNat) (n := 5) (f := (M 22)) (v := ((M 22) j.toNat)) (MP.Z hM 22 rfl) (by omega) (by omega) (rfl) dX3_errorOfCall_22 ?_
      refine g_if_eq X dX3_errorOfCall_23 (tgt := 48) (by decide) (by omega) (fun c23 => ?_) (fun c23 => ?_)
      · refine g_iconst X dX3_errorOfCall_48 ?_
        exact join_49.out 0 _ (by rw [hch2]; grind [bZ]) (lv_sub hl [0, 1, 2] rfl)
      · refine g_aload_n X dX3_errorOfCall_26 rfl hl 0 rfl ?_
        refine g_get X hk (v := .ref (am 23)) in_X3 rfl (MP.O hM) 23 (by decide) q624 (rfl) dX3_errorOfCall_27 ?_
        refine g_iload_n X dX3_errorOfCall_30 rfl hl 1 rfl ?_
        refine g_ialdv X hk (j := j.toNat) (n := 5) (f := (M 23)) (v := ((M 23) j.toNat)) (MP.I hM 23 rfl) (by omega) (by omega) (rfl) dX3_errorOfCall_31 ?_
        refine g_aload_n X dX3_errorOfCall_32 rfl hl 0 rfl ?_
        refine g_iload_n X dX3_errorOfCall_33 rfl hl 1 rfl ?_
        refine g_aload_n X dX3_errorOfCall_34 rfl hl 0 rfl ?_
        refine g_get X hk (v := .int (iI (gNow S))) in_X3 rfl (MP.O hM) 14 (by decide) q615 (sI (MR.now hR)) dX3_errorOfCall_35 ?_
        have hcj_ := m_cycleOf l E am S M s.heap hM hI hR j.toNat (by omega) (gNow S) (by omega)
        rw [Int.toNat_of_nonneg (show 0 ≤ j by omega)] at hcj_
        refine g_pV X hk (As := [.int (iI j), .int (iI (gNow S))]) (rest := [.int (iI ((M 23) j.toNat))]) rfl (MP.O hM) (hcj_) 2 (lw_V q799 q801 qs33 q48 q802) (by decide +kernel) ⟨⟨Nat.le_of_ble_eq_true rfl, Nat.le_of_ble_eq_true rfl⟩, Nat.le_of_ble_eq_true rfl, Nat.le_of_ble_eq_true rfl⟩ rfl rfl hl.1 (Nat.le_of_ble_eq_true rfl) dX3_errorOfCall_38 ?_
        refine g_icmp_ne X dX3_errorOfCall_41 (tgt := 48) (by decide) (by omega) (fun c41 => ?_) (fun c41 => ?_)
        · refine g_iconst X dX3_errorOfCall_48 ?_
          exact join_49.out 0 _ (by rw [hch2]; grind [bZ]) (lv_sub hl [0, 1, 2] rfl)
        · refine g_iconst X dX3_errorOfCall_44 ?_
          refine g_goto X dX3_errorOfCall_45 (tgt := 49) (by decide) ?_
          exact join_49.out 1 _ (by rw [hch2]; grind [bZ]) (lv_sub hl [0, 1, 2] rfl)
    · have hV : ¬ ((0 ≤ j ∧ j ≤ (gN S : Int) - 1) ∧ (0 ≤ v ∧ v ≤ 3)) := by grind [bZ]
      refine g_iconst X dX3_errorOfCall_15 ?_
      exact g_iret X hS (⟨by unfold erU; rw [if_pos hV], M, hM, mT.rf M, fun h => absurd h (by unfold erU; rw [if_pos hV]; omega)⟩) ⟨Nat.le_of_ble_eq_true rfl, Nat.le_of_ble_eq_true rfl⟩ dX3_errorOfCall_16
theorem begK_le {S : GS} {j p : Nat} (hI : gI S) (hj : j < gN S) (hL : 0 ≤ lft S j) (hp : p ≤ gNp S j) : begK (grn S j) (clr S j) p ≤ 1000 * (p : Int) := by
  induction p with
  | zero => simp [begK]
  | succ p ih =>
    have h1 := ih (by omega)
    have h2 := grn_b hI hj hL (show p < gNp S j by omega)
    have h3 := clr_b (hI.2.2 j hj) p
    simp only [begK]
    omega
set_option maxHeartbeats 4000000 in
theorem m_callBus (l : Launch) (E : EP) (am : Nat → Nat) (S : GS) (M : MS) (H : Heap) (hM : MP E am M H) (hI : gI S) (hR : MR S M) (hMI : mI M) (hMC : MC S M) (j v : Int) (hj : -2147483648 ≤ j ∧ j ≤ 2147483647) (hv : -2147483648 ≤ v ∧ v ≤ 2147483647) : gMi l E yX3_callBus cX3_callBus 5 .int 5 0 0 H [.ref (am 0), .int (iI j), .int (iI v)] (mW am) (fun z H1 => ∃ M1, MP E am M1 H1 ∧ M1 0 0 = erU S j v ∧ (erU S j v = 0 → z = cbZ S j.toNat v ∧ ∃ Mh, mQ M Mh ∧ ∀ f i, M1 f i = cbM S j.toNat v Mh f i) ∧ (¬ erU S j v = 0 → mQ M M1)) := by
  refine g_met (plainFor_of_name (by decide)) (Nat.le_of_ble_eq_true rfl) (fun P_ e_ s M_ bl mt_ c_ ls X hmeth_ hk hh hl => ?_)
  subst hh
  have X : gX P_ s M_ mt_ c_ cX3_callBus 5 ([.ref (am 0), .int (iI j), .int (iI v)] : List Value).toArray RX3 (some .int) := X
  have hl : lv_has ls 5 [(0, .ref (am 0)), (1, .int (iI j)), (2, .int (iI v))] := hl
  have hS : va_S (mW am) s.heap s.heap [] := va_S.rf
  have hn5 := hI.1.1
  have hc := hI.2.1
  have hnow := hI.1.2.2
  have hrun := hI.1.2.1
  have her : 0 ≤ erU S j v ∧ erU S j v ≤ 2 := by unfold erU; grind
  refine g_aload_n X dX3_callBus_0 rfl hl 0 rfl ?_
  refine g_aload_n X dX3_callBus_1 rfl hl 0 rfl ?_
  refine g_iload_n X dX3_callBus_2 rfl hl 1 rfl ?_
  refine g_iload_n X dX3_callBus_3 rfl hl 2 rfl ?_
  refine g_calli (g_runV X hk (As := [.int (iI j), .int (iI v)]) (rest := [.ref (am 0)]) rfl (MP.O hM) (m_errorOfCall l E am S M s.heap hM hI hR hMI hMC j v (by omega) (by omega)) 2 (lw_V q876 q878 qs41 q48 q879) (by decide +kernel) ⟨⟨Nat.le_of_ble_eq_true rfl, Nat.le_of_ble_eq_true rfl⟩, Nat.le_of_ble_eq_true rfl, Nat.le_of_ble_eq_true rfl⟩ rfl rfl hl.1 (Nat.le_of_ble_eq_true rfl) dX3_callBus_4) hk hS (fun q h => h) (MP.N hM) (fun z_ H locs hP_ hk hz_ ho_ hS => ?_)
  obtain ⟨hz0_, hP_⟩ := hP_
  subst hz0_
  obtain ⟨M82, hM, xM82, hPu⟩ := hP_
  have qM82 := xM82.Q
  have hR : MR S M82 := hR.Q qM82
  have hMI : mI M82 := hMI.Q qM82
  refine g_calli (g_runV X hk (As := [.int (iI (erU S j v))]) (rest := []) rfl (MP.O hM) (m_holds l E am M82 H hM (erU S j v) (by omega)) 1 (lw_V q694 q696 qs15 q48 q697) (by decide +kernel) ⟨⟨Nat.le_of_ble_eq_true rfl, Nat.le_of_ble_eq_true rfl⟩, Nat.le_of_ble_eq_true rfl, Nat.le_of_ble_eq_true rfl⟩ rfl rfl hl.1 (Nat.le_of_ble_eq_true rfl) dX3_callBus_7) hk hS (fun q h => h) (MP.N hM) (fun z_ H locs hP_ hk hz_ ho_ hS => ?_)
  obtain ⟨hz0_, hM⟩ := hP_
  subst hz0_
  obtain ⟨M83, eM83⟩ : ∃ M_ : MS, M_ = mset M82 0 0 (erU S j v) := ⟨_, rfl⟩
  rw [← eM83] at hM
  have qM83 : mQ M82 M83 := by rw [eM83]; exact mset_Q M82 (Or.inl rfl)
  have tM83 : M83 0 0 = (erU S j v) := by rw [eM83]; exact mset_s _ _ _ _
  have zM83 : ∀ f i, f ≠ 0 → M83 f i = M82 f i := fun f i hf => by rw [eM83]; exact mset_n _ _ (fun e => hf e.1)
  have hR : MR S M83 := hR.Q qM83
  have hMI : mI M83 := hMI.Q qM83
  have hz9 := bZ_le (decide (erU S j v = 0))
  refine g_if_ne X dX3_callBus_10 (tgt := 15) (by decide) (by omega) (fun c10 => ?_) (fun c10 => ?_)
  · have hz : erU S j v = 0 := by grind [bZ]
    have hz2 := hz
    unfold erU at hz2
    have hV : (0 ≤ j ∧ j ≤ (gN S : Int) - 1) ∧ (0 ≤ v ∧ v ≤ 3) := by revert hz2; grind
    have hu3 : alP S (gN S) = true ∧ low S j.toNat v < gNp S j.toNat ∧ chg S j.toNat (gNow S) = false := by revert hz2; grind
    have hlow := hu3.2.1
    have hL : ∀ j, j < gN S → 0 ≤ lft S j := (alP_iff S (gN S)).mp hu3.1
    have hLj := hL j.toNat (by omega)
    have hnpj := (hI.2.2 j.toNat (by omega)).1
    have hof := (hI.2.2 j.toNat (by omega)).2.2.2.2.1
    have hPl : ∀ i, i < gN S → mPl S M83 i := fun i hi => (hPu hz i hi).Z zM83
    obtain ⟨Mh, eMh⟩ : ∃ M_ : MS, M_ = M83 := ⟨_, rfl⟩
    have qh : mQ M Mh := by rw [eMh]; exact (qM82).trans qM83
    have th : Mh 0 0 = erU S j v := by rw [eMh]; exact tM83
    rw [← eMh] at hPl hR hM hMI
    have hMIh := hMI
    have hcb := fl_b (A := 7300) (show 0 < gCyc S by omega) (show -7300 ≤ gNow S - gOff S j.toNat ∧ gNow S - gOff S j.toNat ≤ 7300 by omega)
    have hgb : ∀ p, p < gNp S j.toNat → (0 ≤ grn S j.toNat p ∧ grn S j.toNat p ≤ 1000) ∧ 0 ≤ clr S j.toNat p ∧ clr S j.toNat p ≤ 1000 := fun p hp => by
      have h1 := grn_b hI (show j.toNat < gN S by omega) hLj hp
      have h2 := clr_b (hI.2.2 j.toNat (by omega)) p
      omega
    have eg3 : grn (gset S 33 0 0 1) j.toNat = grn S j.toNat := by funext p; exact pl_grn (plE_run S 1 j.toNat) p
    have ec3 : clr (gset S 33 0 0 1) j.toNat = clr S j.toNat := by funext p; exact pl_clr (plE_run S 1 j.toNat) p
    have hpr := phA_rng (grn S j.toNat) (clr S j.toNat) (gNp S j.toNat) 0 (cbL S j.toNat)
    have hpr : cbP S j.toNat = -1 ∨ (0 ≤ cbP S j.toNat ∧ cbP S j.toNat < gNp S j.toNat) := by unfold cbP; omega
    have hpl := em_b (gNow S - gOff S j.toNat) (gCyc S) hc.1
    have hpl : 0 ≤ cbL S j.toNat ∧ cbL S j.toNat < gCyc S := hpl
    have hI3 : gI (gset S 33 0 0 1) := gI_run hI
    have en3 : gN (gset S 33 0 0 1) = gN S := rfl
    have ep3 : gNp (gset S 33 0 0 1) j.toNat = gNp S j.toNat := rfl
    refine g_aload_n X dX3_callBus_15 rfl hl 0 rfl ?_
    refine g_iload_n X dX3_callBus_16 rfl hl 1 rfl ?_
    refine g_aload_n X dX3_callBus_17 rfl hl 0 rfl ?_
    refine g_get X hk (v := .int (iI (gNow S))) in_X3 rfl (MP.O hM) 14 (by decide) q615 (sI (MR.now hR)) dX3_callBus_18 ?_
    refine g_iconst X dX3_callBus_21 ?_
    have hcj_ := m_phaseAt l E am S Mh H hM hI hR j.toNat (by omega) (gNow S) (by omega) false hMI (grn S j.toNat) (clr S j.toNat) (hPl j.toNat (by omega)) hgb
    rw [Int.toNat_of_nonneg (show 0 ≤ j by omega)] at hcj_
    rw [mPh_f] at hcj_
    refine g_pV X hk (As := [.int (iI j), .int (iI (gNow S)), .int (iI 0)]) (rest := []) rfl (MP.O hM) (hcj_) 3 (lw_V q791 q793 qs31 q48 q794) (by decide +kernel) ⟨⟨Nat.le_of_ble_eq_true rfl, Nat.le_of_ble_eq_true rfl⟩, Nat.le_of_ble_eq_true rfl, Nat.le_of_ble_eq_true rfl⟩ rfl rfl hl.1 (Nat.le_of_ble_eq_true rfl) dX3_callBus_22 ?_
    refine g_istore_n (lv' := [(3, .int (iI (cbP S j.toNat))), (0, .ref (am 0)), (1, .int (iI j)), (2, .int (iI v))]) X dX3_callBus_25 rfl hl (by decide) rfl (fun ls hl => ?_)
    refine g_aload_n X dX3_callBus_26 rfl hl 1 rfl ?_
    refine g_iload_n X dX3_callBus_27 rfl hl 2 rfl ?_
    refine g_iload_n X dX3_callBus_28 rfl hl 3 rfl ?_
    have hcj_ := m_phaseOf l E am S Mh H hM hI hR j.toNat (by omega) v
    rw [Int.toNat_of_nonneg (show 0 ≤ j by omega)] at hcj_
    rw [if_pos hlow] at hcj_
    refine g_pV X hk (As := [.int (iI j), .int (iI v)]) (rest := []) rfl (MP.O hM) (hcj_) 2 (lw_V q880 q882 qs42 q48 q883) (by decide +kernel) ⟨⟨Nat.le_of_ble_eq_true rfl, Nat.le_of_ble_eq_true rfl⟩, Nat.le_of_ble_eq_true rfl, Nat.le_of_ble_eq_true rfl⟩ rfl rfl hl.1 (Nat.le_of_ble_eq_true rfl) dX3_callBus_29 ?_
    refine g_istore (lv' := [(4, .int (iI (((low S j.toNat v) : Nat) : Int))), (3, .int (iI (cbP S j.toNat))), (0, .ref (am 0)), (1, .int (iI j)), (2, .int (iI v))]) X dX3_callBus_32 hl (by decide) rfl (fun ls hl => ?_)
    refine g_aload_n X dX3_callBus_34 rfl hl 2 rfl ?_
    refine g_iconst X dX3_callBus_35 ?_
    refine g_put X hk hS (MP.A0 hM (Or.inl rfl)) in_X3 tyX3 tyX3_ok nmX3 rfl (MP.O hM) 3 (by decide) q604 rfl (ty := .boolean) (by decide +kernel) (iI_narB _ (by omega)) rfl (Nat.le_of_ble_eq_true rfl) dX3_callBus_36 (fun H locs hc_ hk hz_ ho_ hS => ?_)
    obtain ⟨M84, eM84⟩ : ∃ M_ : MS, M_ = mset Mh 3 0 1 := ⟨_, rfl⟩
    have hM : MP E am M84 H := by rw [eM84]; exact MP.put hM 3 rfl hc_ ho_
    have gM84 : ∀ f i, M84 f i = if f = 3 ∧ i = 0 then 1 else Mh f i := by intro f i; rw [eM84]; rfl
    have hR : MR (gset S 33 0 0 1) M84 := by rw [eM84]; exact MR_run hR
    refine g_aload_n X dX3_callBus_39 rfl hl 2 rfl ?_
    refine g_get X hk (v := .ref (am 22)) in_X3 rfl (MP.O hM) 22 (by decide) q623 (rfl) dX3_callBus_40 ?_
    refine g_iload_n X dX3_callBus_43 rfl hl 3 rfl ?_
    refine g_iconst X dX3_callBus_44 ?_
    refine g_bast X hk hS (MP.A0 hM (Or.inr rfl)) (j := j.toNat) (n := 5) (f := (M84 22)) (MP.Z hM 22 rfl) (by omega) (by omega) (by omega) dX3_callBus_45 (fun H locs hc_ hk hz_ ho_ hS => ?_)
    obtain ⟨M85, eM85⟩ : ∃ M_ : MS, M_ = mset M84 22 j.toNat 1 := ⟨_, rfl⟩
    have hM : MP E am M85 H := by rw [eM85]; exact MP.astZ hM 22 rfl hc_ ho_
    have gM85 : ∀ f i, M85 f i = if f = 22 ∧ i = j.toNat then 1 else M84 f i := by intro f i; rw [eM85]; rfl
    have hR : MR (gset S 33 0 0 1) M85 := by rw [eM85]; exact MR.ign hR rfl
    refine g_aload_n X dX3_callBus_46 rfl hl 2 rfl ?_
    refine g_get X hk (v := .ref (am 23)) in_X3 rfl (MP.O hM) 23 (by decide) q624 (rfl) dX3_callBus_47 ?_
    refine g_iload_n X dX3_callBus_50 rfl hl 3 rfl ?_
    refine g_aload_n X dX3_callBus_51 rfl hl 2 rfl ?_
    refine g_iload_n X dX3_callBus_52 rfl hl 3 rfl ?_
    refine g_aload_n X dX3_callBus_53 rfl hl 2 rfl ?_
    refine g_get X hk (v := .int (iI (gNow (gset S 33 0 0 1)))) in_X3 rfl (MP.O hM) 14 (by decide) q615 (sI (MR.now hR)) dX3_callBus_54 ?_
    have hcj_ := m_cycleOf l E am (gset S 33 0 0 1) M85 H hM hI3 hR j.toNat (by omega) (gNow S) (by omega)
    rw [Int.toNat_of_nonneg (show 0 ≤ j by omega)] at hcj_
    refine g_pV X hk (As := [.int (iI j), .int (iI (gNow (gset S 33 0 0 1)))]) (rest := [.int (iI j), .ref (am 23)]) rfl (MP.O hM) (hcj_) 2 (lw_V q799 q801 qs33 q48 q802) (by decide +kernel) ⟨⟨Nat.le_of_ble_eq_true rfl, Nat.le_of_ble_eq_true rfl⟩, Nat.le_of_ble_eq_true rfl, Nat.le_of_ble_eq_true rfl⟩ rfl rfl hl.1 (Nat.le_of_ble_eq_true rfl) dX3_callBus_57 ?_
    refine g_iast X hk hS (MP.A0 hM (Or.inr rfl)) (j := j.toNat) (n := 5) (f := (M85 23)) (MP.I hM 23 rfl) (by omega) (by omega) dX3_callBus_60 (fun H locs hc_ hk hz_ ho_ hS => ?_)
    obtain ⟨M86, eM86⟩ : ∃ M_ : MS, M_ = mset M85 23 j.toNat ((gNow S - gOff S j.toNat) / gCyc S) := ⟨_, rfl⟩
    have hM : MP E am M86 H := by rw [eM86]; exact MP.ast hM 23 rfl hc_ ho_
    have gM86 : ∀ f i, M86 f i = if f = 23 ∧ i = j.toNat then ((gNow S - gOff S j.toNat) / gCyc S) else M85 f i := by intro f i; rw [eM86]; rfl
    have hR : MR (gset S 33 0 0 1) M86 := by rw [eM86]; exact MR.ign hR rfl
    refine g_aload_n X dX3_callBus_61 rfl hl 2 rfl ?_
    refine g_get X hk (v := .ref (am 24)) in_X3 rfl (MP.O hM) 24 (by decide) q625 (rfl) dX3_callBus_62 ?_
    refine g_iload_n X dX3_callBus_65 rfl hl 3 rfl ?_
    refine g_iload X dX3_callBus_66 hl 0 rfl ?_
    refine g_iast X hk hS (MP.A0 hM (Or.inr rfl)) (j := j.toNat) (n := 5) (f := (M86 24)) (MP.I hM 24 rfl) (by omega) (by omega) dX3_callBus_68 (fun H locs hc_ hk hz_ ho_ hS => ?_)
    obtain ⟨M87, eM87⟩ : ∃ M_ : MS, M_ = mset M86 24 j.toNat (((low S j.toNat v) : Nat) : Int) := ⟨_, rfl⟩
    have hM : MP E am M87 H := by rw [eM87]; exact MP.ast hM 24 rfl hc_ ho_
    have gM87 : ∀ f i, M87 f i = if f = 24 ∧ i = j.toNat then (((low S j.toNat v) : Nat) : Int) else M86 f i := by intro f i; rw [eM87]; rfl
    have hR : MR (gset S 33 0 0 1) M87 := by rw [eM87]; exact MR.ign hR rfl
    refine g_aload_n X dX3_callBus_69 rfl hl 2 rfl ?_
    refine g_get X hk (v := .ref (am 25)) in_X3 rfl (MP.O hM) 25 (by decide) q626 (rfl) dX3_callBus_70 ?_
    refine g_iload_n X dX3_callBus_73 rfl hl 3 rfl ?_
    refine g_iload X dX3_callBus_74 hl 0 rfl ?_
    refine g_iast X hk hS (MP.A0 hM (Or.inr rfl)) (j := j.toNat) (n := 5) (f := (M87 25)) (MP.I hM 25 rfl) (by omega) (by omega) dX3_callBus_76 (fun H locs hc_ hk hz_ ho_ hS => ?_)
    obtain ⟨M88, eM88⟩ : ∃ M_ : MS, M_ = mset M87 25 j.toNat (((low S j.toNat v) : Nat) : Int) := ⟨_, rfl⟩
    have hM : MP E am M88 H := by rw [eM88]; exact MP.ast hM 25 rfl hc_ ho_
    have gM88 : ∀ f i, M88 f i = if f = 25 ∧ i = j.toNat then (((low S j.toNat v) : Nat) : Int) else M87 f i := by intro f i; rw [eM88]; rfl
    have hR : MR (gset S 33 0 0 1) M88 := by rw [eM88]; exact MR.ign hR rfl
    refine g_aload_n X dX3_callBus_77 rfl hl 2 rfl ?_
    refine g_get X hk (v := .ref (am 26)) in_X3 rfl (MP.O hM) 26 (by decide) q627 (rfl) dX3_callBus_78 ?_
    refine g_iload_n X dX3_callBus_81 rfl hl 3 rfl ?_
    refine g_iconst X dX3_callBus_82 ?_
    refine g_iast X hk hS (MP.A0 hM (Or.inr rfl)) (j := j.toNat) (n := 5) (f := (M88 26)) (MP.I hM 26 rfl) (by omega) (by omega) dX3_callBus_83 (fun H locs hc_ hk hz_ ho_ hS => ?_)
    obtain ⟨M89, eM89⟩ : ∃ M_ : MS, M_ = mset M88 26 j.toNat 0 := ⟨_, rfl⟩
    have hM : MP E am M89 H := by rw [eM89]; exact MP.ast hM 26 rfl hc_ ho_
    have gM89 : ∀ f i, M89 f i = if f = 26 ∧ i = j.toNat then 0 else M88 f i := by intro f i; rw [eM89]; rfl
    have hR : MR (gset S 33 0 0 1) M89 := by rw [eM89]; exact MR.ign hR rfl
    refine g_iload_n X dX3_callBus_84 rfl hl 1 rfl ?_
    refine g_iload X dX3_callBus_85 hl 0 rfl ?_
    refine g_icmp_ne X dX3_callBus_87 (tgt := 135) (by decide) (by omega) (fun c87 => ?_) (fun c87 => ?_)
    · have hA : cbA S j.toNat v = false := by unfold cbA; exact decide_eq_false (by omega)
      refine g_iload_n X dX3_callBus_135 rfl hl 1 rfl ?_
      refine g_iconst X dX3_callBus_136 ?_
      refine g_icmp_eq X dX3_callBus_137 (tgt := 178) (by decide) (by omega) (fun c137 => ?_) (fun c137 => ?_)
      · refine g_aload_n X dX3_callBus_178 rfl hl 2 rfl ?_
        refine g_get X hk (v := .ref (am 26)) in_X3 rfl (MP.O hM) 26 (by decide) q627 (rfl) dX3_callBus_179 ?_
        refine g_iload_n X dX3_callBus_182 rfl hl 3 rfl ?_
        refine g_ialdv X hk (j := j.toNat) (n := 5) (f := (M89 26)) (v := ((M89 26) j.toNat)) (MP.I hM 26 rfl) (by omega) (by omega) (rfl) dX3_callBus_183 ?_
        exact g_iret X hS (⟨M89, hM, by rw [gM89, if_neg (by omega), gM88, if_neg (by omega), gM87, if_neg (by omega), gM86, if_neg (by omega), gM85, if_neg (by omega), gM84, if_neg (by omega)]; exact th, fun _ => ⟨by rw [gM89, if_pos ⟨rfl, rfl⟩]; unfold cbZ; grind [cbB], Mh, qh, fun f i => by simp only [gM89, gM88, gM87, gM86, gM85, gM84]; unfold cbM cbZ cbG; grind [cbB]⟩, fun h => absurd hz h⟩) ⟨Nat.le_of_ble_eq_true rfl, Nat.le_of_ble_eq_true rfl⟩ dX3_callBus_184
      · refine g_iload X dX3_callBus_140 hl 0 rfl ?_
        refine g_iload_n X dX3_callBus_142 rfl hl 1 rfl ?_
        refine g_icmp_le X dX3_callBus_143 (tgt := 178) (by decide) (by omega) (fun c143 => ?_) (fun c143 => ?_)
        · refine g_aload_n X dX3_callBus_178 rfl hl 2 rfl ?_
          refine g_get X hk (v := .ref (am 26)) in_X3 rfl (MP.O hM) 26 (by decide) q627 (rfl) dX3_callBus_179 ?_
          refine g_iload_n X dX3_callBus_182 rfl hl 3 rfl ?_
          refine g_ialdv X hk (j := j.toNat) (n := 5) (f := (M89 26)) (v := ((M89 26) j.toNat)) (MP.I hM 26 rfl) (by omega) (by omega) (rfl) dX3_callBus_183 ?_
          exact g_iret X hS (⟨M89, hM, by rw [gM89, if_neg (by omega), gM88, if_neg (by omega), gM87, if_neg (by omega), gM86, if_neg (by omega), gM85, if_neg (by omega), gM84, if_neg (by omega)]; exact th, fun _ => ⟨by rw [gM89, if_pos ⟨rfl, rfl⟩]; unfold cbZ; grind [cbB], Mh, qh, fun f i => by simp only [gM89, gM88, gM87, gM86, gM85, gM84]; unfold cbM cbZ cbG; grind [cbB]⟩, fun h => absurd hz h⟩) ⟨Nat.le_of_ble_eq_true rfl, Nat.le_of_ble_eq_true rfl⟩ dX3_callBus_184
        · have hB : cbB S j.toNat v = true := by unfold cbB; exact decide_eq_true ⟨by omega, by omega⟩
          obtain ⟨p_, hp_⟩ : ∃ p_ : Nat, cbP S j.toNat = (p_ : Int) := ⟨(cbP S j.toNat).toNat, by omega⟩
          have ev3 : (cbP S j.toNat) = ((p_ : Nat) : Int) := hp_
          rw [ev3] at hl
          have hl : lv_has ls 5 [(4, .int (iI (((low S j.toNat v) : Nat) : Int))), (3, .int (iI ((p_ : Nat) : Int))), (0, .ref (am 0)), (1, .int (iI j)), (2, .int (iI v))] := hl
          refine g_aload_n X dX3_callBus_146 rfl hl 2 rfl ?_
          refine g_get X hk (v := .ref (am 25)) in_X3 rfl (MP.O hM) 25 (by decide) q626 (rfl) dX3_callBus_147 ?_
          refine g_iload_n X dX3_callBus_150 rfl hl 3 rfl ?_
          refine g_iload_n X dX3_callBus_151 rfl hl 1 rfl ?_
          refine g_iast X hk hS (MP.A0 hM (Or.inr rfl)) (j := j.toNat) (n := 5) (f := (M89 25)) (MP.I hM 25 rfl) (by omega) (by omega) dX3_callBus_152 (fun H locs hc_ hk hz_ ho_ hS => ?_)
          obtain ⟨M90, eM90⟩ : ∃ M_ : MS, M_ = mset M89 25 j.toNat ((p_ : Nat) : Int) := ⟨_, rfl⟩
          have hM : MP E am M90 H := by rw [eM90]; exact MP.ast hM 25 rfl hc_ ho_
          have gM90 : ∀ f i, M90 f i = if f = 25 ∧ i = j.toNat then ((p_ : Nat) : Int) else M89 f i := by intro f i; rw [eM90]; rfl
          have hR : MR (gset S 33 0 0 1) M90 := by rw [eM90]; exact MR.ign hR rfl
          refine g_aload_n X dX3_callBus_153 rfl hl 2 rfl ?_
          refine g_get X hk (v := .ref (am 26)) in_X3 rfl (MP.O hM) 26 (by decide) q627 (rfl) dX3_callBus_154 ?_
          refine g_iload_n X dX3_callBus_157 rfl hl 3 rfl ?_
          refine g_iconst X dX3_callBus_158 ?_
          refine g_aload_n X dX3_callBus_159 rfl hl 2 rfl ?_
          refine g_iload_n X dX3_callBus_160 rfl hl 3 rfl ?_
          refine g_iload_n X dX3_callBus_161 rfl hl 1 rfl ?_
          have hPx : mPl (gset S 33 0 0 1) M90 j.toNat := (plE_run S 1 j.toNat).pl (fun p hp => by rw [gM90, if_neg (by omega), gM89, if_neg (by omega), gM88, if_neg (by omega), gM87, if_neg (by omega), gM86, if_neg (by omega), gM85, if_neg (by omega), gM84, if_neg (by omega), gM90, if_neg (by omega), gM89, if_neg (by omega), gM88, if_neg (by omega), gM87, if_neg (by omega), gM86, if_neg (by omega), gM85, if_neg (by omega), gM84, if_neg (by omega)]; exact hPl j.toNat (by omega) p hp)
          have hMx : mI M90 := by intro i hi; have h := hMIh i hi; simp only [gM90, gM89, gM88, gM87, gM86, gM85, gM84]; grind
          have hcj_ := m_behind l E am (gset S 33 0 0 1) M90 H hM hI3 hR j.toNat (show j.toNat < gN S by omega) p_ (show p_ < gNp S j.toNat by omega) (by rw [eg3, ec3]; exact hp_) hMx (by rw [pl_lft (plE_run S 1 j.toNat)]; exact hLj) hPx
          rw [Int.toNat_of_nonneg (show 0 ≤ j by omega)] at hcj_
          rw [eg3, ec3] at hcj_
          have hbh_ := begK_b (g := grn S j.toNat) (c := clr S j.toNat) (n := gNp S j.toNat) (fun i hi => by have := hgb i hi; omega) p_ (by omega)
          have hbh2_ := begK_le hI (show j.toNat < gN S by omega) hLj (show p_ ≤ gNp S j.toNat by omega)
          have hb1_ := grn_b hI (show j.toNat < gN S by omega) hLj (show p_ < gNp S j.toNat by omega)
          refine g_pV X hk (As := [.int (iI j), .int (iI ((p_ : Nat) : Int))]) (rest := [.int (iI 5), .int (iI j), .ref (am 26)]) rfl (MP.O hM) (hcj_) 2 (lw_V q891 q893 qs44 q48 q894) (by decide +kernel) ⟨⟨Nat.le_of_ble_eq_true rfl, Nat.le_of_ble_eq_true rfl⟩, Nat.le_of_ble_eq_true rfl, Nat.le_of_ble_eq_true rfl⟩ rfl rfl hl.1 (Nat.le_of_ble_eq_true rfl) dX3_callBus_162 ?_
          refine g_pS X hk (As := [.int (iI 5), .int (iI (begK (grn S j.toNat) (clr S j.toNat) p_ + grn S j.toNat p_ - cbL S j.toNat - 1))]) (rest := [.int (iI j), .ref (am 26)]) (m_least l E 5 (begK (grn S j.toNat) (clr S j.toNat) p_ + grn S j.toNat p_ - cbL S j.toNat - 1) H (by omega) (by omega)) 2 (lw_S q888 q889 q48 q890) (by decide +kernel) ⟨⟨Nat.le_of_ble_eq_true rfl, Nat.le_of_ble_eq_true rfl⟩, Nat.le_of_ble_eq_true rfl, Nat.le_of_ble_eq_true rfl⟩ rfl rfl hl.1 (Nat.le_of_ble_eq_true rfl) dX3_callBus_165 ?_
          refine g_aload_n X dX3_callBus_168 rfl hl 2 rfl ?_
          refine g_iload_n X dX3_callBus_169 rfl hl 3 rfl ?_
          refine g_iload_n X dX3_callBus_170 rfl hl 1 rfl ?_
          have hPx : mPl (gset S 33 0 0 1) M90 j.toNat := (plE_run S 1 j.toNat).pl (fun p hp => by rw [gM90, if_neg (by omega), gM89, if_neg (by omega), gM88, if_neg (by omega), gM87, if_neg (by omega), gM86, if_neg (by omega), gM85, if_neg (by omega), gM84, if_neg (by omega), gM90, if_neg (by omega), gM89, if_neg (by omega), gM88, if_neg (by omega), gM87, if_neg (by omega), gM86, if_neg (by omega), gM85, if_neg (by omega), gM84, if_neg (by omega)]; exact hPl j.toNat (by omega) p hp)
          have hcj_ := m_above l E am (gset S 33 0 0 1) M90 H hM hI3 hR j.toNat (show j.toNat < gN S by omega) p_ (show p_ < gNp S j.toNat by omega) hPx
          rw [Int.toNat_of_nonneg (show 0 ≤ j by omega)] at hcj_
          rw [eg3, pl_lst (plE_run S 1 j.toNat)] at hcj_
          have hb1_ := grn_b hI (show j.toNat < gN S by omega) hLj (show p_ < gNp S j.toNat by omega)
          have hb2_ := lst_b S j.toNat p_
          refine g_pV X hk (As := [.int (iI j), .int (iI ((p_ : Nat) : Int))]) (rest := [.int (iI (min 5 (begK (grn S j.toNat) (clr S j.toNat) p_ + grn S j.toNat p_ - cbL S j.toNat - 1))), .int (iI j), .ref (am 26)]) rfl (MP.O hM) (hcj_) 2 (lw_V q884 q886 qs43 q48 q887) (by decide +kernel) ⟨⟨Nat.le_of_ble_eq_true rfl, Nat.le_of_ble_eq_true rfl⟩, Nat.le_of_ble_eq_true rfl, Nat.le_of_ble_eq_true rfl⟩ rfl rfl hl.1 (Nat.le_of_ble_eq_true rfl) dX3_callBus_171 ?_
          refine g_pS X hk (As := [.int (iI (min 5 (begK (grn S j.toNat) (clr S j.toNat) p_ + grn S j.toNat p_ - cbL S j.toNat - 1))), .int (iI (grn S j.toNat p_ - lst S j.toNat p_))]) (rest := [.int (iI j), .ref (am 26)]) (m_least l E (min 5 (begK (grn S j.toNat) (clr S j.toNat) p_ + grn S j.toNat p_ - cbL S j.toNat - 1)) (grn S j.toNat p_ - lst S j.toNat p_) H (by omega) (by omega)) 2 (lw_S q888 q889 q48 q890) (by decide +kernel) ⟨⟨Nat.le_of_ble_eq_true rfl, Nat.le_of_ble_eq_true rfl⟩, Nat.le_of_ble_eq_true rfl, Nat.le_of_ble_eq_true rfl⟩ rfl rfl hl.1 (Nat.le_of_ble_eq_true rfl) dX3_callBus_174 ?_
          refine g_iast X hk hS (MP.A0 hM (Or.inr rfl)) (j := j.toNat) (n := 5) (f := (M90 26)) (MP.I hM 26 rfl) (by omega) (by omega) dX3_callBus_177 (fun H locs hc_ hk hz_ ho_ hS => ?_)
          obtain ⟨M91, eM91⟩ : ∃ M_ : MS, M_ = mset M90 26 j.toNat (min (min 5 (begK (grn S j.toNat) (clr S j.toNat) p_ + grn S j.toNat p_ - cbL S j.toNat - 1)) (grn S j.toNat p_ - lst S j.toNat p_)) := ⟨_, rfl⟩
          have hM : MP E am M91 H := by rw [eM91]; exact MP.ast hM 26 rfl hc_ ho_
          have gM91 : ∀ f i, M91 f i = if f = 26 ∧ i = j.toNat then (min (min 5 (begK (grn S j.toNat) (clr S j.toNat) p_ + grn S j.toNat p_ - cbL S j.toNat - 1)) (grn S j.toNat p_ - lst S j.toNat p_)) else M90 f i := by intro f i; rw [eM91]; rfl
          have hR : MR (gset S 33 0 0 1) M91 := by rw [eM91]; exact MR.ign hR rfl
          refine g_aload_n X dX3_callBus_178 rfl hl 2 rfl ?_
          refine g_get X hk (v := .ref (am 26)) in_X3 rfl (MP.O hM) 26 (by decide) q627 (rfl) dX3_callBus_179 ?_
          refine g_iload_n X dX3_callBus_182 rfl hl 3 rfl ?_
          refine g_ialdv X hk (j := j.toNat) (n := 5) (f := (M91 26)) (v := ((M91 26) j.toNat)) (MP.I hM 26 rfl) (by omega) (by omega) (rfl) dX3_callBus_183 ?_
          exact g_iret X hS (⟨M91, hM, by rw [gM91, if_neg (by omega), gM90, if_neg (by omega), gM89, if_neg (by omega), gM88, if_neg (by omega), gM87, if_neg (by omega), gM86, if_neg (by omega), gM85, if_neg (by omega), gM84, if_neg (by omega)]; exact th, fun _ => ⟨by rw [gM91, if_pos ⟨rfl, rfl⟩]; unfold cbZ; grind [cbB], Mh, qh, fun f i => by simp only [gM91, gM90, gM89, gM88, gM87, gM86, gM85, gM84]; unfold cbM cbZ cbG; grind [cbB]⟩, fun h => absurd hz h⟩) ⟨Nat.le_of_ble_eq_true rfl, Nat.le_of_ble_eq_true rfl⟩ dX3_callBus_184
    · refine g_iload X dX3_callBus_90 hl 0 rfl ?_
      refine g_aload_n X dX3_callBus_92 rfl hl 2 rfl ?_
      refine g_get X hk (v := .ref (am 6)) in_X3 rfl (MP.O hM) 6 (by decide) q607 (rfl) dX3_callBus_93 ?_
      refine g_iload_n X dX3_callBus_96 rfl hl 3 rfl ?_
      refine g_ialdv X hk (j := j.toNat) (n := 5) (f := (M89 6)) (v := (((gNp (gset S 33 0 0 1) j.toNat) : Nat) : Int)) (MP.I hM 6 rfl) (by omega) (by omega) (MR.np hR (by omega)) dX3_callBus_97 ?_
      refine g_iconst X dX3_callBus_98 ?_
      refine g_isub X dX3_callBus_99 ?_
      refine g_icmp_ge X dX3_callBus_100 (tgt := 135) (by decide) (by omega) (fun c100 => ?_) (fun c100 => ?_)
      · have hA : cbA S j.toNat v = false := by unfold cbA; exact decide_eq_false (by omega)
        refine g_iload_n X dX3_callBus_135 rfl hl 1 rfl ?_
        refine g_iconst X dX3_callBus_136 ?_
        refine g_icmp_eq X dX3_callBus_137 (tgt := 178) (by decide) (by omega) (fun c137 => ?_) (fun c137 => ?_)
        · refine g_aload_n X dX3_callBus_178 rfl hl 2 rfl ?_
          refine g_get X hk (v := .ref (am 26)) in_X3 rfl (MP.O hM) 26 (by decide) q627 (rfl) dX3_callBus_179 ?_
          refine g_iload_n X dX3_callBus_182 rfl hl 3 rfl ?_
          refine g_ialdv X hk (j := j.toNat) (n := 5) (f := (M89 26)) (v := ((M89 26) j.toNat)) (MP.I hM 26 rfl) (by omega) (by omega) (rfl) dX3_callBus_183 ?_
          exact g_iret X hS (⟨M89, hM, by rw [gM89, if_neg (by omega), gM88, if_neg (by omega), gM87, if_neg (by omega), gM86, if_neg (by omega), gM85, if_neg (by omega), gM84, if_neg (by omega)]; exact th, fun _ => ⟨by rw [gM89, if_pos ⟨rfl, rfl⟩]; unfold cbZ; grind [cbB], Mh, qh, fun f i => by simp only [gM89, gM88, gM87, gM86, gM85, gM84]; unfold cbM cbZ cbG; grind [cbB]⟩, fun h => absurd hz h⟩) ⟨Nat.le_of_ble_eq_true rfl, Nat.le_of_ble_eq_true rfl⟩ dX3_callBus_184
        · refine g_iload X dX3_callBus_140 hl 0 rfl ?_
          refine g_iload_n X dX3_callBus_142 rfl hl 1 rfl ?_
          refine g_icmp_le X dX3_callBus_143 (tgt := 178) (by decide) (by omega) (fun c143 => ?_) (fun c143 => ?_)
          · refine g_aload_n X dX3_callBus_178 rfl hl 2 rfl ?_
            refine g_get X hk (v := .ref (am 26)) in_X3 rfl (MP.O hM) 26 (by decide) q627 (rfl) dX3_callBus_179 ?_
            refine g_iload_n X dX3_callBus_182 rfl hl 3 rfl ?_
            refine g_ialdv X hk (j := j.toNat) (n := 5) (f := (M89 26)) (v := ((M89 26) j.toNat)) (MP.I hM 26 rfl) (by omega) (by omega) (rfl) dX3_callBus_183 ?_
            exact g_iret X hS (⟨M89, hM, by rw [gM89, if_neg (by omega), gM88, if_neg (by omega), gM87, if_neg (by omega), gM86, if_neg (by omega), gM85, if_neg (by omega), gM84, if_neg (by omega)]; exact th, fun _ => ⟨by rw [gM89, if_pos ⟨rfl, rfl⟩]; unfold cbZ; grind [cbB], Mh, qh, fun f i => by simp only [gM89, gM88, gM87, gM86, gM85, gM84]; unfold cbM cbZ cbG; grind [cbB]⟩, fun h => absurd hz h⟩) ⟨Nat.le_of_ble_eq_true rfl, Nat.le_of_ble_eq_true rfl⟩ dX3_callBus_184
          · have hB : cbB S j.toNat v = true := by unfold cbB; exact decide_eq_true ⟨by omega, by omega⟩
            obtain ⟨p_, hp_⟩ : ∃ p_ : Nat, cbP S j.toNat = (p_ : Int) := ⟨(cbP S j.toNat).toNat, by omega⟩
            have ev3 : (cbP S j.toNat) = ((p_ : Nat) : Int) := hp_
            rw [ev3] at hl
            have hl : lv_has ls 5 [(4, .int (iI (((low S j.toNat v) : Nat) : Int))), (3, .int (iI ((p_ : Nat) : Int))), (0, .ref (am 0)), (1, .int (iI j)), (2, .int (iI v))] := hl
            refine g_aload_n X dX3_callBus_146 rfl hl 2 rfl ?_
            refine g_get X hk (v := .ref (am 25)) in_X3 rfl (MP.O hM) 25 (by decide) q626 (rfl) dX3_callBus_147 ?_
            refine g_iload_n X dX3_callBus_150 rfl hl 3 rfl ?_
            refine g_iload_n X dX3_callBus_151 rfl hl 1 rfl ?_
            refine g_iast X hk hS (MP.A0 hM (Or.inr rfl)) (j := j.toNat) (n := 5) (f := (M89 25)) (MP.I hM 25 rfl) (by omega) (by omega) dX3_callBus_152 (fun H locs hc_ hk hz_ ho_ hS => ?_)
            obtain ⟨M92, eM92⟩ : ∃ M_ : MS, M_ = mset M89 25 j.toNat ((p_ : Nat) : Int) := ⟨_, rfl⟩
            have hM : MP E am M92 H := by rw [eM92]; exact MP.ast hM 25 rfl hc_ ho_
            have gM92 : ∀ f i, M92 f i = if f = 25 ∧ i = j.toNat then ((p_ : Nat) : Int) else M89 f i := by intro f i; rw [eM92]; rfl
            have hR : MR (gset S 33 0 0 1) M92 := by rw [eM92]; exact MR.ign hR rfl
            refine g_aload_n X dX3_callBus_153 rfl hl 2 rfl ?_
            refine g_get X hk (v := .ref (am 26)) in_X3 rfl (MP.O hM) 26 (by decide) q627 (rfl) dX3_callBus_154 ?_
            refine g_iload_n X dX3_callBus_157 rfl hl 3 rfl ?_
            refine g_iconst X dX3_callBus_158 ?_
            refine g_aload_n X dX3_callBus_159 rfl hl 2 rfl ?_
            refine g_iload_n X dX3_callBus_160 rfl hl 3 rfl ?_
            refine g_iload_n X dX3_callBus_161 rfl hl 1 rfl ?_
            have hPx : mPl (gset S 33 0 0 1) M92 j.toNat := (plE_run S 1 j.toNat).pl (fun p hp => by rw [gM92, if_neg (by omega), gM89, if_neg (by omega), gM88, if_neg (by omega), gM87, if_neg (by omega), gM86, if_neg (by omega), gM85, if_neg (by omega), gM84, if_neg (by omega), gM92, if_neg (by omega), gM89, if_neg (by omega), gM88, if_neg (by omega), gM87, if_neg (by omega), gM86, if_neg (by omega), gM85, if_neg (by omega), gM84, if_neg (by omega)]; exact hPl j.toNat (by omega) p hp)
            have hMx : mI M92 := by intro i hi; have h := hMIh i hi; simp only [gM92, gM89, gM88, gM87, gM86, gM85, gM84]; grind
            have hcj_ := m_behind l E am (gset S 33 0 0 1) M92 H hM hI3 hR j.toNat (show j.toNat < gN S by omega) p_ (show p_ < gNp S j.toNat by omega) (by rw [eg3, ec3]; exact hp_) hMx (by rw [pl_lft (plE_run S 1 j.toNat)]; exact hLj) hPx
            rw [Int.toNat_of_nonneg (show 0 ≤ j by omega)] at hcj_
            rw [eg3, ec3] at hcj_
            have hbh_ := begK_b (g := grn S j.toNat) (c := clr S j.toNat) (n := gNp S j.toNat) (fun i hi => by have := hgb i hi; omega) p_ (by omega)
            have hbh2_ := begK_le hI (show j.toNat < gN S by omega) hLj (show p_ ≤ gNp S j.toNat by omega)
            have hb1_ := grn_b hI (show j.toNat < gN S by omega) hLj (show p_ < gNp S j.toNat by omega)
            refine g_pV X hk (As := [.int (iI j), .int (iI ((p_ : Nat) : Int))]) (rest := [.int (iI 5), .int (iI j), .ref (am 26)]) rfl (MP.O hM) (hcj_) 2 (lw_V q891 q893 qs44 q48 q894) (by decide +kernel) ⟨⟨Nat.le_of_ble_eq_true rfl, Nat.le_of_ble_eq_true rfl⟩, Nat.le_of_ble_eq_true rfl, Nat.le_of_ble_eq_true rfl⟩ rfl rfl hl.1 (Nat.le_of_ble_eq_true rfl) dX3_callBus_162 ?_
            refine g_pS X hk (As := [.int (iI 5), .int (iI (begK (grn S j.toNat) (clr S j.toNat) p_ + grn S j.toNat p_ - cbL S j.toNat - 1))]) (rest := [.int (iI j), .ref (am 26)]) (m_least l E 5 (begK (grn S j.toNat) (clr S j.toNat) p_ + grn S j.toNat p_ - cbL S j.toNat - 1) H (by omega) (by omega)) 2 (lw_S q888 q889 q48 q890) (by decide +kernel) ⟨⟨Nat.le_of_ble_eq_true rfl, Nat.le_of_ble_eq_true rfl⟩, Nat.le_of_ble_eq_true rfl, Nat.le_of_ble_eq_true rfl⟩ rfl rfl hl.1 (Nat.le_of_ble_eq_true rfl) dX3_callBus_165 ?_
            refine g_aload_n X dX3_callBus_168 rfl hl 2 rfl ?_
            refine g_iload_n X dX3_callBus_169 rfl hl 3 rfl ?_
            refine g_iload_n X dX3_callBus_170 rfl hl 1 rfl ?_
            have hPx : mPl (gset S 33 0 0 1) M92 j.toNat := (plE_run S 1 j.toNat).pl (fun p hp => by rw [gM92, if_neg (by omega), gM89, if_neg (by omega), gM88, if_neg (by omega), gM87, if_neg (by omega), gM86, if_neg (by omega), gM85, if_neg (by omega), gM84, if_neg (by omega), gM92, if_neg (by omega), gM89, if_neg (by omega), gM88, if_neg (by omega), gM87, if_neg (by omega), gM86, if_neg (by omega), gM85, if_neg (by omega), gM84, if_neg (by omega)]; exact hPl j.toNat (by omega) p hp)
            have hcj_ := m_above l E am (gset S 33 0 0 1) M92 H hM hI3 hR j.toNat (show j.toNat < gN S by omega) p_ (show p_ < gNp S j.toNat by omega) hPx
            rw [Int.toNat_of_nonneg (show 0 ≤ j by omega)] at hcj_
            rw [eg3, pl_lst (plE_run S 1 j.toNat)] at hcj_
            have hb1_ := grn_b hI (show j.toNat < gN S by omega) hLj (show p_ < gNp S j.toNat by omega)
            have hb2_ := lst_b S j.toNat p_
            refine g_pV X hk (As := [.int (iI j), .int (iI ((p_ : Nat) : Int))]) (rest := [.int (iI (min 5 (begK (grn S j.toNat) (clr S j.toNat) p_ + grn S j.toNat p_ - cbL S j.toNat - 1))), .int (iI j), .ref (am 26)]) rfl (MP.O hM) (hcj_) 2 (lw_V q884 q886 qs43 q48 q887) (by decide +kernel) ⟨⟨Nat.le_of_ble_eq_true rfl, Nat.le_of_ble_eq_true rfl⟩, Nat.le_of_ble_eq_true rfl, Nat.le_of_ble_eq_true rfl⟩ rfl rfl hl.1 (Nat.le_of_ble_eq_true rfl) dX3_callBus_171 ?_
            refine g_pS X hk (As := [.int (iI (min 5 (begK (grn S j.toNat) (clr S j.toNat) p_ + grn S j.toNat p_ - cbL S j.toNat - 1))), .int (iI (grn S j.toNat p_ - lst S j.toNat p_))]) (rest := [.int (iI j), .ref (am 26)]) (m_least l E (min 5 (begK (grn S j.toNat) (clr S j.toNat) p_ + grn S j.toNat p_ - cbL S j.toNat - 1)) (grn S j.toNat p_ - lst S j.toNat p_) H (by omega) (by omega)) 2 (lw_S q888 q889 q48 q890) (by decide +kernel) ⟨⟨Nat.le_of_ble_eq_true rfl, Nat.le_of_ble_eq_true rfl⟩, Nat.le_of_ble_eq_true rfl, Nat.le_of_ble_eq_true rfl⟩ rfl rfl hl.1 (Nat.le_of_ble_eq_true rfl) dX3_callBus_174 ?_
            refine g_iast X hk hS (MP.A0 hM (Or.inr rfl)) (j := j.toNat) (n := 5) (f := (M92 26)) (MP.I hM 26 rfl) (by omega) (by omega) dX3_callBus_177 (fun H locs hc_ hk hz_ ho_ hS => ?_)
            obtain ⟨M93, eM93⟩ : ∃ M_ : MS, M_ = mset M92 26 j.toNat (min (min 5 (begK (grn S j.toNat) (clr S j.toNat) p_ + grn S j.toNat p_ - cbL S j.toNat - 1)) (grn S j.toNat p_ - lst S j.toNat p_)) := ⟨_, rfl⟩
            have hM : MP E am M93 H := by rw [eM93]; exact MP.ast hM 26 rfl hc_ ho_
            have gM93 : ∀ f i, M93 f i = if f = 26 ∧ i = j.toNat then (min (min 5 (begK (grn S j.toNat) (clr S j.toNat) p_ + grn S j.toNat p_ - cbL S j.toNat - 1)) (grn S j.toNat p_ - lst S j.toNat p_)) else M92 f i := by intro f i; rw [eM93]; rfl
            have hR : MR (gset S 33 0 0 1) M93 := by rw [eM93]; exact MR.ign hR rfl
            refine g_aload_n X dX3_callBus_178 rfl hl 2 rfl ?_
            refine g_get X hk (v := .ref (am 26)) in_X3 rfl (MP.O hM) 26 (by decide) q627 (rfl) dX3_callBus_179 ?_
            refine g_iload_n X dX3_callBus_182 rfl hl 3 rfl ?_
            refine g_ialdv X hk (j := j.toNat) (n := 5) (f := (M93 26)) (v := ((M93 26) j.toNat)) (MP.I hM 26 rfl) (by omega) (by omega) (rfl) dX3_callBus_183 ?_
            exact g_iret X hS (⟨M93, hM, by rw [gM93, if_neg (by omega), gM92, if_neg (by omega), gM89, if_neg (by omega), gM88, if_neg (by omega), gM87, if_neg (by omega), gM86, if_neg (by omega), gM85, if_neg (by omega), gM84, if_neg (by omega)]; exact th, fun _ => ⟨by rw [gM93, if_pos ⟨rfl, rfl⟩]; unfold cbZ; grind [cbB], Mh, qh, fun f i => by simp only [gM93, gM92, gM89, gM88, gM87, gM86, gM85, gM84]; unfold cbM cbZ cbG; grind [cbB]⟩, fun h => absurd hz h⟩) ⟨Nat.le_of_ble_eq_true rfl, Nat.le_of_ble_eq_true rfl⟩ dX3_callBus_184
      · have hA : cbA S j.toNat v = true := by unfold cbA; exact decide_eq_true ⟨by omega, by omega⟩
        refine g_aload_n X dX3_callBus_103 rfl hl 2 rfl ?_
        refine g_get X hk (v := .ref (am 25)) in_X3 rfl (MP.O hM) 25 (by decide) q626 (rfl) dX3_callBus_104 ?_
        refine g_iload_n X dX3_callBus_107 rfl hl 3 rfl ?_
        refine g_iload X dX3_callBus_108 hl 0 rfl ?_
        refine g_iconst X dX3_callBus_110 ?_
        refine g_iadd X dX3_callBus_111 ?_
        refine g_iast X hk hS (MP.A0 hM (Or.inr rfl)) (j := j.toNat) (n := 5) (f := (M89 25)) (MP.I hM 25 rfl) (by omega) (by omega) dX3_callBus_112 (fun H locs hc_ hk hz_ ho_ hS => ?_)
        obtain ⟨M94, eM94⟩ : ∃ M_ : MS, M_ = mset M89 25 j.toNat ((((low S j.toNat v) : Nat) : Int) + 1) := ⟨_, rfl⟩
        have hM : MP E am M94 H := by rw [eM94]; exact MP.ast hM 25 rfl hc_ ho_
        have gM94 : ∀ f i, M94 f i = if f = 25 ∧ i = j.toNat then ((((low S j.toNat v) : Nat) : Int) + 1) else M89 f i := by intro f i; rw [eM94]; rfl
        have hR : MR (gset S 33 0 0 1) M94 := by rw [eM94]; exact MR.ign hR rfl
        refine g_aload_n X dX3_callBus_113 rfl hl 2 rfl ?_
        refine g_get X hk (v := .ref (am 26)) in_X3 rfl (MP.O hM) 26 (by decide) q627 (rfl) dX3_callBus_114 ?_
        refine g_iload_n X dX3_callBus_117 rfl hl 3 rfl ?_
        refine g_iconst X dX3_callBus_118 ?_
        refine g_aload_n X dX3_callBus_119 rfl hl 2 rfl ?_
        refine g_iload_n X dX3_callBus_120 rfl hl 3 rfl ?_
        refine g_iload X dX3_callBus_121 hl 0 rfl ?_
        refine g_iconst X dX3_callBus_123 ?_
        refine g_iadd X dX3_callBus_124 ?_
        have hPx : mPl (gset S 33 0 0 1) M94 j.toNat := (plE_run S 1 j.toNat).pl (fun p hp => by rw [gM94, if_neg (by omega), gM89, if_neg (by omega), gM88, if_neg (by omega), gM87, if_neg (by omega), gM86, if_neg (by omega), gM85, if_neg (by omega), gM84, if_neg (by omega), gM94, if_neg (by omega), gM89, if_neg (by omega), gM88, if_neg (by omega), gM87, if_neg (by omega), gM86, if_neg (by omega), gM85, if_neg (by omega), gM84, if_neg (by omega)]; exact hPl j.toNat (by omega) p hp)
        have hcj_ := m_above l E am (gset S 33 0 0 1) M94 H hM hI3 hR j.toNat (show j.toNat < gN S by omega) ((low S j.toNat v) + 1) (show ((low S j.toNat v) + 1) < gNp S j.toNat by omega) hPx
        rw [Int.toNat_of_nonneg (show 0 ≤ j by omega)] at hcj_
        rw [eg3, pl_lst (plE_run S 1 j.toNat)] at hcj_
        have hb1_ := grn_b hI (show j.toNat < gN S by omega) hLj (show ((low S j.toNat v) + 1) < gNp S j.toNat by omega)
        have hb2_ := lst_b S j.toNat ((low S j.toNat v) + 1)
        refine g_pV X hk (As := [.int (iI j), .int (iI ((((low S j.toNat v) : Nat) : Int) + 1))]) (rest := [.int (iI 5), .int (iI j), .ref (am 26)]) rfl (MP.O hM) (hcj_) 2 (lw_V q884 q886 qs43 q48 q887) (by decide +kernel) ⟨⟨Nat.le_of_ble_eq_true rfl, Nat.le_of_ble_eq_true rfl⟩, Nat.le_of_ble_eq_true rfl, Nat.le_of_ble_eq_true rfl⟩ rfl rfl hl.1 (Nat.le_of_ble_eq_true rfl) dX3_callBus_125 ?_
        refine g_pS X hk (As := [.int (iI 5), .int (iI (grn S j.toNat ((low S j.toNat v) + 1) - lst S j.toNat ((low S j.toNat v) + 1)))]) (rest := [.int (iI j), .ref (am 26)]) (m_least l E 5 (grn S j.toNat ((low S j.toNat v) + 1) - lst S j.toNat ((low S j.toNat v) + 1)) H (by omega) (by omega)) 2 (lw_S q888 q889 q48 q890) (by decide +kernel) ⟨⟨Nat.le_of_ble_eq_true rfl, Nat.le_of_ble_eq_true rfl⟩, Nat.le_of_ble_eq_true rfl, Nat.le_of_ble_eq_true rfl⟩ rfl rfl hl.1 (Nat.le_of_ble_eq_true rfl) dX3_callBus_128 ?_
        refine g_iast X hk hS (MP.A0 hM (Or.inr rfl)) (j := j.toNat) (n := 5) (f := (M94 26)) (MP.I hM 26 rfl) (by omega) (by omega) dX3_callBus_131 (fun H locs hc_ hk hz_ ho_ hS => ?_)
        obtain ⟨M95, eM95⟩ : ∃ M_ : MS, M_ = mset M94 26 j.toNat (min 5 (grn S j.toNat ((low S j.toNat v) + 1) - lst S j.toNat ((low S j.toNat v) + 1))) := ⟨_, rfl⟩
        have hM : MP E am M95 H := by rw [eM95]; exact MP.ast hM 26 rfl hc_ ho_
        have gM95 : ∀ f i, M95 f i = if f = 26 ∧ i = j.toNat then (min 5 (grn S j.toNat ((low S j.toNat v) + 1) - lst S j.toNat ((low S j.toNat v) + 1))) else M94 f i := by intro f i; rw [eM95]; rfl
        have hR : MR (gset S 33 0 0 1) M95 := by rw [eM95]; exact MR.ign hR rfl
        refine g_goto X dX3_callBus_132 (tgt := 178) (by decide) ?_
        refine g_aload_n X dX3_callBus_178 rfl hl 2 rfl ?_
        refine g_get X hk (v := .ref (am 26)) in_X3 rfl (MP.O hM) 26 (by decide) q627 (rfl) dX3_callBus_179 ?_
        refine g_iload_n X dX3_callBus_182 rfl hl 3 rfl ?_
        refine g_ialdv X hk (j := j.toNat) (n := 5) (f := (M95 26)) (v := ((M95 26) j.toNat)) (MP.I hM 26 rfl) (by omega) (by omega) (rfl) dX3_callBus_183 ?_
        exact g_iret X hS (⟨M95, hM, by rw [gM95, if_neg (by omega), gM94, if_neg (by omega), gM89, if_neg (by omega), gM88, if_neg (by omega), gM87, if_neg (by omega), gM86, if_neg (by omega), gM85, if_neg (by omega), gM84, if_neg (by omega)]; exact th, fun _ => ⟨by rw [gM95, if_pos ⟨rfl, rfl⟩]; unfold cbZ; grind [cbB], Mh, qh, fun f i => by simp only [gM95, gM94, gM89, gM88, gM87, gM86, gM85, gM84]; unfold cbM cbZ cbG; grind [cbB]⟩, fun h => absurd hz h⟩) ⟨Nat.le_of_ble_eq_true rfl, Nat.le_of_ble_eq_true rfl⟩ dX3_callBus_184
  · refine g_iconst X dX3_callBus_13 ?_
    exact g_iret X hS (⟨M83, hM, tM83, fun h => absurd h (by grind [bZ]), fun _ => (qM82).trans qM83⟩) ⟨Nat.le_of_ble_eq_true rfl, Nat.le_of_ble_eq_true rfl⟩ dX3_callBus_14
