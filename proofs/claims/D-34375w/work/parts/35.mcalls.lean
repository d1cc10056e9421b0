/-! the reference: its calls (setters, and what reads the plan) -/
set_option maxHeartbeats 4000000 in
theorem m_setOffset (l : Launch) (E : EP) (am : Nat → Nat) (S : GS) (M : MS) (H : Heap) (hM : MP E am M H) (hI : gI S) (hR : MR S M) (hMI : mI M) (j o : Int) (hj : -2147483648 ≤ j ∧ j ≤ 2147483647) (ho : -2147483648 ≤ o ∧ o ≤ 2147483647) : gMi l E yX3_setOffset cX3_setOffset 4 .int 3 0 0 H [.ref (am 0), .int (iI j), .int (iI o)] (mW am) (fun z H1 => ∃ M1, MP E am M1 H1 ∧ M1 0 0 = erO S j o ∧ (erO S j o = 0 → z = gOff S j.toNat ∧ MR (gset S 14 j.toNat 0 o) M1 ∧ mC M M1) ∧ (¬ erO S j o = 0 → mQ M M1)) := by
  refine g_met (plainFor_of_name (by decide)) (Nat.le_of_ble_eq_true rfl) (fun P_ e_ s M_ bl mt_ c_ ls X hmeth_ hk hh hl => ?_)
  subst hh
  have X : gX P_ s M_ mt_ c_ cX3_setOffset 4 ([.ref (am 0), .int (iI j), .int (iI o)] : List Value).toArray RX3 (some .int) := X
  have hl : lv_has ls 4 [(0, .ref (am 0)), (1, .int (iI j)), (2, .int (iI o))] := hl
  have hS : va_S (mW am) s.heap s.heap [] := va_S.rf
  have hn5 := hI.1.1
  have hnp : ∀ i, i < gN S → 1 ≤ gNp S i ∧ gNp S i ≤ 4 := fun i hi => (hI.2.2 i hi).1
  have hrun := hI.1.2.1
  have hc := hI.2.1
  refine g_aload_n X dX3_setOffset_0 rfl hl 0 rfl ?_
  have join_43 : gHide (∀ (z : Int) (ls : Array Slot), z = (erO S j o) → lv_has ls 4 [(0, .ref (am 0)), (1, .int (iI j)), (2, .int (iI o))] → W P_ l e_ (gR 3 0 0) s M_ ([.ref (am 0), .int (iI j), .int (iI o)] : List Value).toArray bl mt_ c_ s.heap [] 0 0 (MQ bl (gQi (mW am) (fun z H1 => ∃ M1, MP E am M1 H1 ∧ M1 0 0 = erO S j o ∧ (erO S j o = 0 → z = gOff S j.toNat ∧ MR (gset S 14 j.toNat 0 o) M1 ∧ mC M M1) ∧ (¬ erO S j o = 0 → mQ M M1))) ([.ref (am 0), .int (iI j), .int (iI o)] : List Value).toArray s 0 0 (mW am)) (F0 M_ 43 ls [.int (iI z), .ref (am 0)])) := by
    intro z ls e_z hl
    subst e_z
    have hl : lv_has ls 4 [(0, .ref (am 0)), (1, .int (iI j)), (2, .int (iI o))] := hl
    have her : 0 ≤ erO S j o ∧ erO S j o ≤ 3 := by unfold erO; grind
    have hj0 : erO S j o = 0 → 0 ≤ j ∧ j ≤ (gN S : Int) - 1 := by unfold erO; grind
    refine g_calli (g_runV X hk (As := [.int (iI (erO S j o))]) (rest := []) rfl (MP.O hM) (m_holds l E am M s.heap hM (erO S j o) (by omega)) 1 (lw_V q694 q696 qs15 q48 q697) (by decide +kernel) ⟨⟨Nat.le_of_ble_eq_true rfl, Nat.le_of_ble_eq_true rfl⟩, Nat.le_of_ble_eq_true rfl, Nat.le_of_ble_eq_true rfl⟩ rfl rfl hl.1 (Nat.le_of_ble_eq_true rfl) dX3_setOffset_43) hk hS (fun q h => h) (MP.N hM) (fun z_ H locs hP_ hk hz_ ho_ hS => ?_)
    obtain ⟨hz0_, hM⟩ := hP_
    subst hz0_
    obtain ⟨M9, eM9⟩ : ∃ M_ : MS, M_ = mset M 0 0 (erO S j o) := ⟨_, rfl⟩
    rw [← eM9] at hM
    have qM9 : mQ M M9 := by rw [eM9]; exact mset_Q M (Or.inl rfl)
    have tM9 : M9 0 0 = (erO S j o) := by rw [eM9]; exact mset_s _ _ _ _
    have zM9 : ∀ f i, f ≠ 0 → M9 f i = M f i := fun f i hf => by rw [eM9]; exact mset_n _ _ (fun e => hf e.1)
    have hR : MR S M9 := hR.Q qM9
    have hMI : mI M9 := hMI.Q qM9
    have h46 := bZ_le (decide (erO S j o = 0))
    refine g_if_ne X dX3_setOffset_46 (tgt := 51) (by decide) (by omega) (fun c46 => ?_) (fun c46 => ?_)
    · have hz : erO S j o = 0 := by grind [bZ]
      have hj1 := hj0 hz
      refine g_aload_n X dX3_setOffset_51 rfl hl 0 rfl ?_
      refine g_get X hk (v := .ref (am 8)) in_X3 rfl (MP.O hM) 8 (by decide) q609 (rfl) dX3_setOffset_52 ?_
      refine g_iload_n X dX3_setOffset_55 rfl hl 1 rfl ?_
      refine g_ialdv X hk (j := j.toNat) (n := 5) (f := (M9 8)) (v := (gOff S j.toNat)) (MP.I hM 8 rfl) (by omega) (by omega) (MR.off hR (by omega)) dX3_setOffset_56 ?_
      refine g_istore_n (lv' := [(3, .int (iI (gOff S j.toNat))), (0, .ref (am 0)), (1, .int (iI j)), (2, .int (iI o))]) X dX3_setOffset_57 rfl hl (by decide) rfl (fun ls hl => ?_)
      refine g_aload_n X dX3_setOffset_58 rfl hl 1 rfl ?_
      refine g_get X hk (v := .ref (am 8)) in_X3 rfl (MP.O hM) 8 (by decide) q609 (rfl) dX3_setOffset_59 ?_
      refine g_iload_n X dX3_setOffset_62 rfl hl 2 rfl ?_
      refine g_iload_n X dX3_setOffset_63 rfl hl 3 rfl ?_
      refine g_iast X hk hS (MP.A0 hM (Or.inr rfl)) (j := j.toNat) (n := 5) (f := (M9 8)) (MP.I hM 8 rfl) (by omega) (by omega) dX3_setOffset_64 (fun H locs hc_ hk hz_ ho_ hS => ?_)
      obtain ⟨M10, eM10⟩ : ∃ M_ : MS, M_ = mset M9 8 j.toNat o := ⟨_, rfl⟩
      have hM : MP E am M10 H := by rw [eM10]; exact MP.ast hM 8 rfl hc_ ho_
      have gM10 : ∀ f i, M10 f i = if f = 8 ∧ i = j.toNat then o else M9 f i := by intro f i; rw [eM10]; rfl
      have cM10 : mC M9 M10 := by rw [eM10]; exact mC.set _ (by omega)
      have hR : MR (gset S 14 j.toNat 0 o) M10 := by rw [eM10]; exact MR_off hR (by omega)
      refine g_iload_n X dX3_setOffset_65 rfl hl 0 rfl ?_
      exact g_iret X hS (⟨M10, hM, by grind, fun _ => ⟨rfl, hR, ((qM9).C).trans cM10⟩, fun h => absurd (by grind [bZ]) h⟩) ⟨Nat.le_of_ble_eq_true rfl, Nat.le_of_ble_eq_true rfl⟩ dX3_setOffset_66
    · refine g_iconst X dX3_setOffset_49 ?_
      exact g_iret X hS (⟨M9, hM, tM9, fun h => absurd h (by grind [bZ]), fun _ => qM9⟩) ⟨Nat.le_of_ble_eq_true rfl, Nat.le_of_ble_eq_true rfl⟩ dX3_setOffset_50
  refine g_aload_n X dX3_setOffset_1 rfl hl 0 rfl ?_
  refine g_iload_n X dX3_setOffset_2 rfl hl 1 rfl ?_
  refine g_pV X hk (As := [.int (iI j)]) (rest := [.ref (am 0)]) rfl (MP.O hM) (m_isJunction l E am S M s.heap hM hI hR j (by omega)) 1 (lw_V q706 q708 qs17 q48 q709) (by decide +kernel) ⟨⟨Nat.le_of_ble_eq_true rfl, Nat.le_of_ble_eq_true rfl⟩, Nat.le_of_ble_eq_true rfl, Nat.le_of_ble_eq_true rfl⟩ rfl rfl hl.1 (Nat.le_of_ble_eq_true rfl) dX3_setOffset_3 ?_
  have h6 := bZ_le (decide (0 ≤ j ∧ j ≤ (gN S : Int) - 1))
  refine g_if_ne X dX3_setOffset_6 (tgt := 13) (by decide) (by omega) (fun c6 => ?_) (fun c6 => ?_)
  · refine g_iload_n X dX3_setOffset_13 rfl hl 2 rfl ?_
    refine g_iconst X dX3_setOffset_14 ?_
    refine g_aload_n X dX3_setOffset_15 rfl hl 0 rfl ?_
    refine g_get X hk (v := .int (iI (gCyc S))) in_X3 rfl (MP.O hM) 2 (by decide) q603 (sI (MR.cyc hR)) dX3_setOffset_16 ?_
    refine g_iconst X dX3_setOffset_19 ?_
    refine g_isub X dX3_setOffset_20 ?_
    refine g_pS X hk (As := [.int (iI o), .int (iI 0), .int (iI ((gCyc S) - 1))]) (rest := [.ref (am 0)]) (m_in l E o 0 ((gCyc S) - 1) s.heap (by omega) (by omega) (by omega)) 3 (lw_S q691 q692 q48 q693) (by decide +kernel) ⟨⟨Nat.le_of_ble_eq_true rfl, Nat.le_of_ble_eq_true rfl⟩, Nat.le_of_ble_eq_true rfl, Nat.le_of_ble_eq_true rfl⟩ rfl rfl hl.1 (Nat.le_of_ble_eq_true rfl) dX3_setOffset_21 ?_
    have h24 := bZ_le (decide (0 ≤ o ∧ o ≤ gCyc S - 1))
    refine g_if_ne X dX3_setOffset_24 (tgt := 31) (by decide) (by omega) (fun c24 => ?_) (fun c24 => ?_)
    · refine g_aload_n X dX3_setOffset_31 rfl hl 0 rfl ?_
      refine g_get X hk (v := .int (iI (gRun S))) in_X3 rfl (MP.O hM) 3 (by decide) q604 (sI (MR.run hR)) dX3_setOffset_32 ?_
      refine g_if_eq X dX3_setOffset_35 (tgt := 42) (by decide) (by omega) (fun c35 => ?_) (fun c35 => ?_)
      · refine g_iconst X dX3_setOffset_42 ?_
        exact join_43.out 0 _ (by unfold erO; grind [bZ]) (lv_sub hl [0, 1, 2] rfl)
      · refine g_iconst X dX3_setOffset_38 ?_
        refine g_goto X dX3_setOffset_39 (tgt := 43) (by decide) ?_
        exact join_43.out 3 _ (by unfold erO; grind [bZ]) (lv_sub hl [0, 1, 2] rfl)
    · refine g_iconst X dX3_setOffset_27 ?_
      refine g_goto X dX3_setOffset_28 (tgt := 43) (by decide) ?_
      exact join_43.out 2 _ (by unfold erO; grind [bZ]) (lv_sub hl [0, 1, 2] rfl)
  · refine g_iconst X dX3_setOffset_9 ?_
    refine g_goto X dX3_setOffset_10 (tgt := 43) (by decide) ?_
    exact join_43.out 1 _ (by unfold erO; grind [bZ]) (lv_sub hl [0, 1, 2] rfl)
set_option maxHeartbeats 4000000 in
theorem m_setFlow (l : Launch) (E : EP) (am : Nat → Nat) (S : GS) (M : MS) (H : Heap) (hM : MP E am M H) (hI : gI S) (hR : MR S M) (hMI : mI M) (j v x : Int) (hj : -2147483648 ≤ j ∧ j ≤ 2147483647) (hv : -2147483648 ≤ v ∧ v ≤ 2147483647) (hx : -2147483648 ≤ x ∧ x ≤ 2147483647) : gMi l E yX3_setFlow cX3_setFlow 6 .int 3 0 0 H [.ref (am 0), .int (iI j), .int (iI v), .int (iI x)] (mW am) (fun z H1 => ∃ M1, MP E am M1 H1 ∧ M1 0 0 = erF S j v x ∧ (erF S j v x = 0 → z = gFl S j.toNat v.toNat ∧ MR (gset S 2 j.toNat v.toNat x) M1 ∧ mC M M1) ∧ (¬ erF S j v x = 0 → mQ M M1)) := by
  refine g_met (plainFor_of_name (by decide)) (Nat.le_of_ble_eq_true rfl) (fun P_ e_ s M_ bl mt_ c_ ls X hmeth_ hk hh hl => ?_)
  subst hh
  have X : gX P_ s M_ mt_ c_ cX3_setFlow 6 ([.ref (am 0), .int (iI j), .int (iI v), .int (iI x)] : List Value).toArray RX3 (some .int) := X
  have hl : lv_has ls 6 [(0, .ref (am 0)), (1, .int (iI j)), (2, .int (iI v)), (3, .int (iI x))] := hl
  have hS : va_S (mW am) s.heap s.heap [] := va_S.rf
  have hn5 := hI.1.1
  have hnp : ∀ i, i < gN S → 1 ≤ gNp S i ∧ gNp S i ≤ 4 := fun i hi => (hI.2.2 i hi).1
  have hrun := hI.1.2.1
  have join_20 : gHide (∀ (z : Int) (ls : Array Slot), z = (bZ (decide ((0 ≤ j ∧ j ≤ (gN S : Int) - 1) ∧ (0 ≤ v ∧ v ≤ 3)))) → lv_has ls 6 [(0, .ref (am 0)), (1, .int (iI j)), (2, .int (iI v)), (3, .int (iI x))] → W P_ l e_ (gR 3 0 0) s M_ ([.ref (am 0), .int (iI j), .int (iI v), .int (iI x)] : List Value).toArray bl mt_ c_ s.heap [] 0 0 (MQ bl (gQi (mW am) (fun z H1 => ∃ M1, MP E am M1 H1 ∧ M1 0 0 = erF S j v x ∧ (erF S j v x = 0 → z = gFl S j.toNat v.toNat ∧ MR (gset S 2 j.toNat v.toNat x) M1 ∧ mC M M1) ∧ (¬ erF S j v x = 0 → mQ M M1))) ([.ref (am 0), .int (iI j), .int (iI v), .int (iI x)] : List Value).toArray s 0 0 (mW am)) (F0 M_ 20 ls [.int (iI z)])) := by
    intro z ls e_z hl
    subst e_z
    have hl : lv_has ls 6 [(0, .ref (am 0)), (1, .int (iI j)), (2, .int (iI v)), (3, .int (iI x))] := hl
    have h20 := bZ_le (decide ((0 ≤ j ∧ j ≤ (gN S : Int) - 1) ∧ (0 ≤ v ∧ v ≤ 3)))
    refine g_istore (lv' := [(4, .int (iI (bZ (decide ((0 ≤ j ∧ j ≤ (gN S : Int) - 1) ∧ (0 ≤ v ∧ v ≤ 3)))))), (0, .ref (am 0)), (1, .int (iI j)), (2, .int (iI v)), (3, .int (iI x))]) X dX3_setFlow_20 hl (by decide) rfl (fun ls hl => ?_)
    refine g_aload_n X dX3_setFlow_22 rfl hl 1 rfl ?_
    have join_59 : gHide (∀ (z : Int) (ls : Array Slot), z = (erF S j v x) → lv_has ls 6 [(4, .int (iI (bZ (decide ((0 ≤ j ∧ j ≤ (gN S : Int) - 1) ∧ (0 ≤ v ∧ v ≤ 3)))))), (0, .ref (am 0)), (1, .int (iI j)), (2, .int (iI v)), (3, .int (iI x))] → W P_ l e_ (gR 3 0 0) s M_ ([.ref (am 0), .int (iI j), .int (iI v), .int (iI x)] : List Value).toArray bl mt_ c_ s.heap [] 0 0 (MQ bl (gQi (mW am) (fun z H1 => ∃ M1, MP E am M1 H1 ∧ M1 0 0 = erF S j v x ∧ (erF S j v x = 0 → z = gFl S j.toNat v.toNat ∧ MR (gset S 2 j.toNat v.toNat x) M1 ∧ mC M M1) ∧ (¬ erF S j v x = 0 → mQ M M1))) ([.ref (am 0), .int (iI j), .int (iI v), .int (iI x)] : List Value).toArray s 0 0 (mW am)) (F0 M_ 59 ls [.int (iI z), .ref (am 0)])) := by
      intro z ls e_z hl
      subst e_z
      have hl : lv_has ls 6 [(4, .int (iI (bZ (decide ((0 ≤ j ∧ j ≤ (gN S : Int) - 1) ∧ (0 ≤ v ∧ v ≤ 3)))))), (0, .ref (am 0)), (1, .int (iI j)), (2, .int (iI v)), (3, .int (iI x))] := hl
      have her : 0 ≤ erF S j v x ∧ erF S j v x ≤ 3 := by unfold erF; grind
      have hj0 : erF S j v x = 0 → (0 ≤ j ∧ j ≤ (gN S : Int) - 1) ∧ 0 ≤ v ∧ v ≤ 3 := by unfold erF; grind
      refine g_calli (g_runV X hk (As := [.int (iI (erF S j v x))]) (rest := []) rfl (MP.O hM) (m_holds l E am M s.heap hM (erF S j v x) (by omega)) 1 (lw_V q694 q696 qs15 q48 q697) (by decide +kernel) ⟨⟨Nat.le_of_ble_eq_true rfl, Nat.le_of_ble_eq_true rfl⟩, Nat.le_of_ble_eq_true rfl, Nat.le_of_ble_eq_true rfl⟩ rfl rfl hl.1 (Nat.le_of_ble_eq_true rfl) dX3_setFlow_59) hk hS (fun q h => h) (MP.N hM) (fun z_ H locs hP_ hk hz_ ho_ hS => ?_)
      obtain ⟨hz0_, hM⟩ := hP_
      subst hz0_
      obtain ⟨M11, eM11⟩ : ∃ M_ : MS, M_ = mset M 0 0 (erF S j v x) := ⟨_, rfl⟩
      rw [← eM11] at hM
      have qM11 : mQ M M11 := by rw [eM11]; exact mset_Q M (Or.inl rfl)
      have tM11 : M11 0 0 = (erF S j v x) := by rw [eM11]; exact mset_s _ _ _ _
      have zM11 : ∀ f i, f ≠ 0 → M11 f i = M f i := fun f i hf => by rw [eM11]; exact mset_n _ _ (fun e => hf e.1)
      have hR : MR S M11 := hR.Q qM11
      have hMI : mI M11 := hMI.Q qM11
      have h62 := bZ_le (decide (erF S j v x = 0))
      refine g_if_ne X dX3_setFlow_62 (tgt := 67) (by decide) (by omega) (fun c62 => ?_) (fun c62 => ?_)
      · have hz : erF S j v x = 0 := by grind [bZ]
        have hj1 := hj0 hz
        refine g_aload_n X dX3_setFlow_67 rfl hl 1 rfl ?_
        refine g_get X hk (v := .ref (am 7)) in_X3 rfl (MP.O hM) 7 (by decide) q608 (rfl) dX3_setFlow_68 ?_
        refine g_iconst X dX3_setFlow_71 ?_
        refine g_iload_n X dX3_setFlow_72 rfl hl 2 rfl ?_
        refine g_imul X dX3_setFlow_73 ?_
        refine g_iload_n X dX3_setFlow_74 rfl hl 3 rfl ?_
        refine g_iadd X dX3_setFlow_75 ?_
        refine g_ialdv X hk (j := (4 * j.toNat) + v.toNat) (n := 20) (f := (M11 7)) (v := (gFl S j.toNat v.toNat)) (MP.I hM 7 rfl) (by omega) (by omega) (MR.fl hR (by omega) (by omega)) dX3_setFlow_76 ?_
        refine g_istore (lv' := [(5, .int (iI (gFl S j.toNat v.toNat))), (4, .int (iI (bZ (decide ((0 ≤ j ∧ j ≤ (gN S : Int) - 1) ∧ (0 ≤ v ∧ v ≤ 3)))))), (0, .ref (am 0)), (1, .int (iI j)), (2, .int (iI v)), (3, .int (iI x))]) X dX3_setFlow_77 hl (by decide) rfl (fun ls hl => ?_)
        refine g_aload_n X dX3_setFlow_79 rfl hl 2 rfl ?_
        refine g_get X hk (v := .ref (am 7)) in_X3 rfl (MP.O hM) 7 (by decide) q608 (rfl) dX3_setFlow_80 ?_
        refine g_iconst X dX3_setFlow_83 ?_
        refine g_iload_n X dX3_setFlow_84 rfl hl 3 rfl ?_
        refine g_imul X dX3_setFlow_85 ?_
        refine g_iload_n X dX3_setFlow_86 rfl hl 4 rfl ?_
        refine g_iadd X dX3_setFlow_87 ?_
        refine g_iload_n X dX3_setFlow_88 rfl hl 5 rfl ?_
        refine g_iast X hk hS (MP.A0 hM (Or.inr rfl)) (j := 4 * j.toNat + v.toNat) (n := 20) (f := (M11 7)) (MP.I hM 7 rfl) (by omega) (by omega) dX3_setFlow_89 (fun H locs hc_ hk hz_ ho_ hS => ?_)
        obtain ⟨M12, eM12⟩ : ∃ M_ : MS, M_ = mset M11 7 (4 * j.toNat + v.toNat) x := ⟨_, rfl⟩
        have hM : MP E am M12 H := by rw [eM12]; exact MP.ast hM 7 rfl hc_ ho_
        have gM12 : ∀ f i, M12 f i = if f = 7 ∧ i = 4 * j.toNat + v.toNat then x else M11 f i := by intro f i; rw [eM12]; rfl
        have cM12 : mC M11 M12 := by rw [eM12]; exact mC.set _ (by omega)
        have hR : MR (gset S 2 j.toNat v.toNat x) M12 := by rw [eM12]; exact MR_fl hR (by omega) (by omega)
        refine g_iload X dX3_setFlow_90 hl 0 rfl ?_
        exact g_iret X hS (⟨M12, hM, by grind, fun _ => ⟨rfl, hR, ((qM11).C).trans cM12⟩, fun h => absurd (by grind [bZ]) h⟩) ⟨Nat.le_of_ble_eq_true rfl, Nat.le_of_ble_eq_true rfl⟩ dX3_setFlow_92
      · refine g_iconst X dX3_setFlow_65 ?_
        exact g_iret X hS (⟨M11, hM, tM11, fun h => absurd h (by grind [bZ]), fun _ => qM11⟩) ⟨Nat.le_of_ble_eq_true rfl, Nat.le_of_ble_eq_true rfl⟩ dX3_setFlow_66
    refine g_iload X dX3_setFlow_23 hl 0 rfl ?_
    refine g_if_ne X dX3_setFlow_25 (tgt := 32) (by decide) (by omega) (fun c25 => ?_) (fun c25 => ?_)
    · refine g_iload_n X dX3_setFlow_32 rfl hl 4 rfl ?_
      refine g_iconst X dX3_setFlow_33 ?_
      refine g_sipush X dX3_setFlow_34 rfl ?_
      refine g_pS X hk (As := [.int (iI x), .int (iI 0), .int (iI 1800)]) (rest := [.ref (am 0)]) (m_in l E x 0 1800 s.heap (by omega) (by omega) (by omega)) 3 (lw_S q691 q692 q48 q693) (by decide +kernel) ⟨⟨Nat.le_of_ble_eq_true rfl, Nat.le_of_ble_eq_true rfl⟩, Nat.le_of_ble_eq_true rfl, Nat.le_of_ble_eq_true rfl⟩ rfl rfl hl.1 (Nat.le_of_ble_eq_true rfl) dX3_setFlow_37 ?_
      have h40 := bZ_le (decide (0 ≤ x ∧ x ≤ 1800))
      refine g_if_ne X dX3_setFlow_40 (tgt := 47) (by decide) (by omega) (fun c40 => ?_) (fun c40 => ?_)
      · refine g_aload_n X dX3_setFlow_47 rfl hl 1 rfl ?_
        refine g_get X hk (v := .int (iI (gRun S))) in_X3 rfl (MP.O hM) 3 (by decide) q604 (sI (MR.run hR)) dX3_setFlow_48 ?_
        refine g_if_eq X dX3_setFlow_51 (tgt := 58) (by decide) (by omega) (fun c51 => ?_) (fun c51 => ?_)
        · refine g_iconst X dX3_setFlow_58 ?_
          exact join_59.out 0 _ (by unfold erF; grind [bZ]) (lv_sub hl [0, 1, 2, 3, 4] rfl)
        · refine g_iconst X dX3_setFlow_54 ?_
          refine g_goto X dX3_setFlow_55 (tgt := 59) (by decide) ?_
          exact join_59.out 3 _ (by unfold erF; grind [bZ]) (lv_sub hl [0, 1, 2, 3, 4] rfl)
      · refine g_iconst X dX3_setFlow_43 ?_
        refine g_goto X dX3_setFlow_44 (tgt := 59) (by decide) ?_
        exact join_59.out 2 _ (by unfold erF; grind [bZ]) (lv_sub hl [0, 1, 2, 3, 4] rfl)
    · refine g_iconst X dX3_setFlow_28 ?_
      refine g_goto X dX3_setFlow_29 (tgt := 59) (by decide) ?_
      exact join_59.out 1 _ (by unfold erF; grind [bZ]) (lv_sub hl [0, 1, 2, 3, 4] rfl)
  refine g_aload_n X dX3_setFlow_0 rfl hl 0 rfl ?_
  refine g_iload_n X dX3_setFlow_1 rfl hl 1 rfl ?_
  refine g_pV X hk (As := [.int (iI j)]) (rest := []) rfl (MP.O hM) (m_isJunction l E am S M s.heap hM hI hR j (by omega)) 1 (lw_V q706 q708 qs17 q48 q709) (by decide +kernel) ⟨⟨Nat.le_of_ble_eq_true rfl, Nat.le_of_ble_eq_true rfl⟩, Nat.le_of_ble_eq_true rfl, Nat.le_of_ble_eq_true rfl⟩ rfl rfl hl.1 (Nat.le_of_ble_eq_true rfl) dX3_setFlow_2 ?_
  have h5 := bZ_le (decide (0 ≤ j ∧ j ≤ (gN S : Int) - 1))
  refine g_if_eq X dX3_setFlow_5 (tgt := 19) (by decide) (by omega) (fun c5 => ?_) (fun c5 => ?_)
  · refine g_iconst X dX3_setFlow_19 ?_
    exact join_20.out 0 _ (by grind [bZ]) (lv_sub hl [0, 1, 2, 3] rfl)
  · refine g_iload_n X dX3_setFlow_8 rfl hl 2 rfl ?_
    refine g_pS X hk (As := [.int (iI v)]) (rest := []) (m_isMovement l E v s.heap (by omega)) 1 (lw_S q710 q711 q48 q712) (by decide +kernel) ⟨⟨Nat.le_of_ble_eq_true rfl, Nat.le_of_ble_eq_true rfl⟩, Nat.le_of_ble_eq_true rfl, Nat.le_of_ble_eq_true rfl⟩ rfl rfl hl.1 (Nat.le_of_ble_eq_true rfl) dX3_setFlow_9 ?_
    have h12 := bZ_le (decide (0 ≤ v ∧ v ≤ 3))
    refine g_if_eq X dX3_setFlow_12 (tgt := 19) (by decide) (by omega) (fun c12 => ?_) (fun c12 => ?_)
    · refine g_iconst X dX3_setFlow_19 ?_
      exact join_20.out 0 _ (by grind [bZ]) (lv_sub hl [0, 1, 2, 3] rfl)
    · refine g_iconst X dX3_setFlow_15 ?_
      refine g_goto X dX3_setFlow_16 (tgt := 20) (by decide) ?_
      exact join_20.out 1 _ (by grind [bZ]) (lv_sub hl [0, 1, 2, 3] rfl)
set_option maxHeartbeats 4000000 in
theorem m_setLink (l : Launch) (E : EP) (am : Nat → Nat) (S : GS) (M : MS) (H : Heap) (hM : MP E am M H) (hI : gI S) (hR : MR S M) (hMI : mI M) (j t r : Int) (hj : -2147483648 ≤ j ∧ j ≤ 2147483647) (ht : -2147483648 ≤ t ∧ t ≤ 2147483647) (hr : -2147483648 ≤ r ∧ r ≤ 2147483647) : gMv l E yX3_setLink cX3_setLink 5 3 0 0 H [.ref (am 0), .int (iI j), .int (iI t), .int (iI r)] (mW am) (fun H1 => ∃ M1, MP E am M1 H1 ∧ M1 0 0 = erL S j t r ∧ (erL S j t r = 0 → MR (gset (gset S 15 j.toNat 0 t) 16 j.toNat 0 r) M1 ∧ mC M M1) ∧ (¬ erL S j t r = 0 → mQ M M1)) := by
  refine g_met (plainFor_of_name (by decide)) (Nat.le_of_ble_eq_true rfl) (fun P_ e_ s M_ bl mt_ c_ ls X hmeth_ hk hh hl => ?_)
  subst hh
  have X : gX P_ s M_ mt_ c_ cX3_setLink 5 ([.ref (am 0), .int (iI j), .int (iI t), .int (iI r)] : List Value).toArray RX3 none := X
  have hl : lv_has ls 5 [(0, .ref (am 0)), (1, .int (iI j)), (2, .int (iI t)), (3, .int (iI r))] := hl
  have hS : va_S (mW am) s.heap s.heap [] := va_S.rf
  have hn5 := hI.1.1
  have hnp : ∀ i, i < gN S → 1 ≤ gNp S i ∧ gNp S i ≤ 4 := fun i hi => (hI.2.2 i hi).1
  have hrun := hI.1.2.1
  have join_25 : gHide (∀ (z : Int) (ls : Array Slot), z = (bZ (decide ((1 ≤ t ∧ t ≤ 60) ∧ (1 ≤ r ∧ r ≤ 40)))) → lv_has ls 5 [(0, .ref (am 0)), (1, .int (iI j)), (2, .int (iI t)), (3, .int (iI r))] → W P_ l e_ (gR 3 0 0) s M_ ([.ref (am 0), .int (iI j), .int (iI t), .int (iI r)] : List Value).toArray bl mt_ c_ s.heap [] 0 0 (MQ bl (gQv (mW am) (fun H1 => ∃ M1, MP E am M1 H1 ∧ M1 0 0 = erL S j t r ∧ (erL S j t r = 0 → MR (gset (gset S 15 j.toNat 0 t) 16 j.toNat 0 r) M1 ∧ mC M M1) ∧ (¬ erL S j t r = 0 → mQ M M1))) ([.ref (am 0), .int (iI j), .int (iI t), .int (iI r)] : List Value).toArray s 0 0 (mW am)) (F0 M_ 25 ls [.int (iI z)])) := by
    intro z ls e_z hl
    subst e_z
    have hl : lv_has ls 5 [(0, .ref (am 0)), (1, .int (iI j)), (2, .int (iI t)), (3, .int (iI r))] := hl
    have h25 := bZ_le (decide ((1 ≤ t ∧ t ≤ 60) ∧ (1 ≤ r ∧ r ≤ 40)))
    refine g_istore (lv' := [(4, .int (iI (bZ (decide ((1 ≤ t ∧ t ≤ 60) ∧ (1 ≤ r ∧ r ≤ 40)))))), (0, .ref (am 0)), (1, .int (iI j)), (2, .int (iI t)), (3, .int (iI r))]) X dX3_setLink_25 hl (by decide) rfl (fun ls hl => ?_)
    refine g_aload_n X dX3_setLink_27 rfl hl 1 rfl ?_
    have join_61 : gHide (∀ (z : Int) (ls : Array Slot), z = (erL S j t r) → lv_has ls 5 [(4, .int (iI (bZ (decide ((1 ≤ t ∧ t ≤ 60) ∧ (1 ≤ r ∧ r ≤ 40)))))), (0, .ref (am 0)), (1, .int (iI j)), (2, .int (iI t)), (3, .int (iI r))] → W P_ l e_ (gR 3 0 0) s M_ ([.ref (am 0), .int (iI j), .int (iI t), .int (iI r)] : List Value).toArray bl mt_ c_ s.heap [] 0 0 (MQ bl (gQv (mW am) (fun H1 => ∃ M1, MP E am M1 H1 ∧ M1 0 0 = erL S j t r ∧ (erL S j t r = 0 → MR (gset (gset S 15 j.toNat 0 t) 16 j.toNat 0 r) M1 ∧ mC M M1) ∧ (¬ erL S j t r = 0 → mQ M M1))) ([.ref (am 0), .int (iI j), .int (iI t), .int (iI r)] : List Value).toArray s 0 0 (mW am)) (F0 M_ 61 ls [.int (iI z), .ref (am 0)])) := by
      intro z ls e_z hl
      subst e_z
      have hl : lv_has ls 5 [(4, .int (iI (bZ (decide ((1 ≤ t ∧ t ≤ 60) ∧ (1 ≤ r ∧ r ≤ 40)))))), (0, .ref (am 0)), (1, .int (iI j)), (2, .int (iI t)), (3, .int (iI r))] := hl
      have her : 0 ≤ erL S j t r ∧ erL S j t r ≤ 3 := by unfold erL; grind
      have hj0 : erL S j t r = 0 → 0 ≤ j ∧ j ≤ (gN S : Int) - 2 := by unfold erL; grind
      refine g_calli (g_runV X hk (As := [.int (iI (erL S j t r))]) (rest := []) rfl (MP.O hM) (m_holds l E am M s.heap hM (erL S j t r) (by omega)) 1 (lw_V q694 q696 qs15 q48 q697) (by decide +kernel) ⟨⟨Nat.le_of_ble_eq_true rfl, Nat.le_of_ble_eq_true rfl⟩, Nat.le_of_ble_eq_true rfl, Nat.le_of_ble_eq_true rfl⟩ rfl rfl hl.1 (Nat.le_of_ble_eq_true rfl) dX3_setLink_61) hk hS (fun q h => h) (MP.N hM) (fun z_ H locs hP_ hk hz_ ho_ hS => ?_)
      obtain ⟨hz0_, hM⟩ := hP_
      subst hz0_
      obtain ⟨M13, eM13⟩ : ∃ M_ : MS, M_ = mset M 0 0 (erL S j t r) := ⟨_, rfl⟩
      rw [← eM13] at hM
      have qM13 : mQ M M13 := by rw [eM13]; exact mset_Q M (Or.inl rfl)
      have tM13 : M13 0 0 = (erL S j t r) := by rw [eM13]; exact mset_s _ _ _ _
      have zM13 : ∀ f i, f ≠ 0 → M13 f i = M f i := fun f i hf => by rw [eM13]; exact mset_n _ _ (fun e => hf e.1)
      have hR : MR S M13 := hR.Q qM13
      have hMI : mI M13 := hMI.Q qM13
      have h64 := bZ_le (decide (erL S j t r = 0))
      refine g_if_eq X dX3_setLink_64 (tgt := 81) (by decide) (by omega) (fun c64 => ?_) (fun c64 => ?_)
      · exact g_vret X hS (⟨M13, hM, tM13, fun h => absurd h (by grind [bZ]), fun _ => qM13⟩) ⟨Nat.le_of_ble_eq_true rfl, Nat.le_of_ble_eq_true rfl⟩ dX3_setLink_81
      · have hz : erL S j t r = 0 := by grind [bZ]
        have hj1 := hj0 hz
        refine g_aload_n X dX3_setLink_67 rfl hl 1 rfl ?_
        refine g_get X hk (v := .ref (am 9)) in_X3 rfl (MP.O hM) 9 (by decide) q610 (rfl) dX3_setLink_68 ?_
        refine g_iload_n X dX3_setLink_71 rfl hl 2 rfl ?_
        refine g_iload_n X dX3_setLink_72 rfl hl 3 rfl ?_
        refine g_iast X hk hS (MP.A0 hM (Or.inr rfl)) (j := j.toNat) (n := 4) (f := (M13 9)) (MP.I hM 9 rfl) (by omega) (by omega) dX3_setLink_73 (fun H locs hc_ hk hz_ ho_ hS => ?_)
        obtain ⟨M14, eM14⟩ : ∃ M_ : MS, M_ = mset M13 9 j.toNat t := ⟨_, rfl⟩
        have hM : MP E am M14 H := by rw [eM14]; exact MP.ast hM 9 rfl hc_ ho_
        have gM14 : ∀ f i, M14 f i = if f = 9 ∧ i = j.toNat then t else M13 f i := by intro f i; rw [eM14]; rfl
        have cM14 : mC M13 M14 := by rw [eM14]; exact mC.set _ (by omega)
        have hR : MR (gset S 15 j.toNat 0 t) M14 := by rw [eM14]; exact MR_lnk hR (by omega)
        refine g_aload_n X dX3_setLink_74 rfl hl 1 rfl ?_
        refine g_get X hk (v := .ref (am 10)) in_X3 rfl (MP.O hM) 10 (by decide) q611 (rfl) dX3_setLink_75 ?_
        refine g_iload_n X dX3_setLink_78 rfl hl 2 rfl ?_
        refine g_iload_n X dX3_setLink_79 rfl hl 4 rfl ?_
        refine g_iast X hk hS (MP.A0 hM (Or.inr rfl)) (j := j.toNat) (n := 4) (f := (M14 10)) (MP.I hM 10 rfl) (by omega) (by omega) dX3_setLink_80 (fun H locs hc_ hk hz_ ho_ hS => ?_)
        obtain ⟨M15, eM15⟩ : ∃ M_ : MS, M_ = mset M14 10 j.toNat r := ⟨_, rfl⟩
        have hM : MP E am M15 H := by rw [eM15]; exact MP.ast hM 10 rfl hc_ ho_
        have gM15 : ∀ f i, M15 f i = if f = 10 ∧ i = j.toNat then r else M14 f i := by intro f i; rw [eM15]; rfl
        have cM15 : mC M14 M15 := by rw [eM15]; exact mC.set _ (by omega)
        have hR : MR (gset (gset S 15 j.toNat 0 t) 16 j.toNat 0 r) M15 := by rw [eM15]; exact MR_roo hR (show j.toNat + 1 < gN S by omega)
        exact g_vret X hS (⟨M15, hM, by grind, fun _ => ⟨hR, (((qM13).C).trans cM14).trans cM15⟩, fun h => absurd (by grind [bZ]) h⟩) ⟨Nat.le_of_ble_eq_true rfl, Nat.le_of_ble_eq_true rfl⟩ dX3_setLink_81
    refine g_aload_n X dX3_setLink_28 rfl hl 1 rfl ?_
    refine g_iload_n X dX3_setLink_29 rfl hl 2 rfl ?_
    refine g_pV X hk (As := [.int (iI j)]) (rest := [.ref (am 0)]) rfl (MP.O hM) (m_isLink l E am S M s.heap hM hI hR j (by omega)) 1 (lw_V q739 q741 qs20 q48 q742) (by decide +kernel) ⟨⟨Nat.le_of_ble_eq_true rfl, Nat.le_of_ble_eq_true rfl⟩, Nat.le_of_ble_eq_true rfl, Nat.le_of_ble_eq_true rfl⟩ rfl rfl hl.1 (Nat.le_of_ble_eq_true rfl) dX3_setLink_30 ?_
    have h33 := bZ_le (decide (0 ≤ j ∧ j ≤ (gN S : Int) - 2))
    refine g_if_ne X dX3_setLink_33 (tgt := 40) (by decide) (by omega) (fun c33 => ?_) (fun c33 => ?_)
    · refine g_iload X dX3_setLink_40 hl 0 rfl ?_
      refine g_if_ne X dX3_setLink_42 (tgt := 49) (by decide) (by omega) (fun c42 => ?_) (fun c42 => ?_)
      · refine g_aload_n X dX3_setLink_49 rfl hl 1 rfl ?_
        refine g_get X hk (v := .int (iI (gRun S))) in_X3 rfl (MP.O hM) 3 (by decide) q604 (sI (MR.run hR)) dX3_setLink_50 ?_
        refine g_if_eq X dX3_setLink_53 (tgt := 60) (by decide) (by omega) (fun c53 => ?_) (fun c53 => ?_)
        · refine g_iconst X dX3_setLink_60 ?_
          exact join_61.out 0 _ (by unfold erL; grind [bZ]) (lv_sub hl [0, 1, 2, 3, 4] rfl)
        · refine g_iconst X dX3_setLink_56 ?_
          refine g_goto X dX3_setLink_57 (tgt := 61) (by decide) ?_
          exact join_61.out 3 _ (by unfold erL; grind [bZ]) (lv_sub hl [0, 1, 2, 3, 4] rfl)
      · refine g_iconst X dX3_setLink_45 ?_
        refine g_goto X dX3_setLink_46 (tgt := 61) (by decide) ?_
        exact join_61.out 2 _ (by unfold erL; grind [bZ]) (lv_sub hl [0, 1, 2, 3, 4] rfl)
    · refine g_iconst X dX3_setLink_36 ?_
      refine g_goto X dX3_setLink_37 (tgt := 61) (by decide) ?_
      exact join_61.out 1 _ (by unfold erL; grind [bZ]) (lv_sub hl [0, 1, 2, 3, 4] rfl)
  refine g_iload_n X dX3_setLink_0 rfl hl 2 rfl ?_
  refine g_iconst X dX3_setLink_1 ?_
  refine g_bipush X dX3_setLink_2 rfl ?_
  refine g_pS X hk (As := [.int (iI t), .int (iI 1), .int (iI 60)]) (rest := []) (m_in l E t 1 60 s.heap (by omega) (by omega) (by omega)) 3 (lw_S q691 q692 q48 q693) (by decide +kernel) ⟨⟨Nat.le_of_ble_eq_true rfl, Nat.le_of_ble_eq_true rfl⟩, Nat.le_of_ble_eq_true rfl, Nat.le_of_ble_eq_true rfl⟩ rfl rfl hl.1 (Nat.le_of_ble_eq_true rfl) dX3_setLink_4 ?_
  have h7 := bZ_le (decide (1 ≤ t ∧ t ≤ 60))
  refine g_if_eq X dX3_setLink_7 (tgt := 24) (by decide) (by omega) (fun c7 => ?_) (fun c7 => ?_)
  · refine g_iconst X dX3_setLink_24 ?_
    exact join_25.out 0 _ (by grind [bZ]) (lv_sub hl [0, 1, 2, 3] rfl)
  · refine g_iload_n X dX3_setLink_10 rfl hl 3 rfl ?_
    refine g_iconst X dX3_setLink_11 ?_
    refine g_bipush X dX3_setLink_12 rfl ?_
    refine g_pS X hk (As := [.int (iI r), .int (iI 1), .int (iI 40)]) (rest := []) (m_in l E r 1 40 s.heap (by omega) (by omega) (by omega)) 3 (lw_S q691 q692 q48 q693) (by decide +kernel) ⟨⟨Nat.le_of_ble_eq_true rfl, Nat.le_of_ble_eq_true rfl⟩, Nat.le_of_ble_eq_true rfl, Nat.le_of_ble_eq_true rfl⟩ rfl rfl hl.1 (Nat.le_of_ble_eq_true rfl) dX3_setLink_14 ?_
    have h17 := bZ_le (decide (1 ≤ r ∧ r ≤ 40))
    refine g_if_eq X dX3_setLink_17 (tgt := 24) (by decide) (by omega) (fun c17 => ?_) (fun c17 => ?_)
    · refine g_iconst X dX3_setLink_24 ?_
      exact join_25.out 0 _ (by grind [bZ]) (lv_sub hl [0, 1, 2, 3] rfl)
    · refine g_iconst X dX3_setLink_20 ?_
      refine g_goto X dX3_setLink_21 (tgt := 25) (by decide) ?_
      exact join_25.out 1 _ (by grind [bZ]) (lv_sub hl [0, 1, 2, 3] rfl)
set_option maxHeartbeats 4000000 in
theorem m_setConflict (l : Launch) (E : EP) (am : Nat → Nat) (S : GS) (M : MS) (H : Heap) (hM : MP E am M H) (hI : gI S) (hR : MR S M) (hMI : mI M) (j a b x : Int) (hj : -2147483648 ≤ j ∧ j ≤ 2147483647) (ha : -2147483648 ≤ a ∧ a ≤ 2147483647) (hb : -2147483648 ≤ b ∧ b ≤ 2147483647) (hx : -2147483648 ≤ x ∧ x ≤ 2147483647) : gMi l E yX3_setConflict cX3_setConflict 6 .int 3 0 0 H [.ref (am 0), .int (iI j), .int (iI a), .int (iI b), .int (iI x)] (mW am) (fun z H1 => ∃ M1, MP E am M1 H1 ∧ M1 0 0 = erC S j a b x ∧ (erC S j a b x = 0 → z = gCf S j.toNat (4 * a.toNat + b.toNat) ∧ MR (gset (gset S 1 j.toNat (4 * a.toNat + b.toNat) x) 1 j.toNat (4 * b.toNat + a.toNat) x) M1 ∧ mC M M1) ∧ (¬ erC S j a b x = 0 → mQ M M1)) := by
  refine g_met (plainFor_of_name (by decide)) (Nat.le_of_ble_eq_true rfl) (fun P_ e_ s M_ bl mt_ c_ ls X hmeth_ hk hh hl => ?_)
  subst hh
  have X : gX P_ s M_ mt_ c_ cX3_setConflict 6 ([.ref (am 0), .int (iI j), .int (iI a), .int (iI b), .int (iI x)] : List Value).toArray RX3 (some .int) := X
  have hl : lv_has ls 6 [(0, .ref (am 0)), (1, .int (iI j)), (2, .int (iI a)), (3, .int (iI b)), (4, .int (iI x))] := hl
  have hS : va_S (mW am) s.heap s.heap [] := va_S.rf
  have hn5 := hI.1.1
  have hnp : ∀ i, i < gN S → 1 ≤ gNp S i ∧ gNp S i ≤ 4 := fun i hi => (hI.2.2 i hi).1
  have hrun := hI.1.2.1
  have her : 0 ≤ erC S j a b x ∧ erC S j a b x ≤ 3 := by unfold erC; grind
  have hj0 : erC S j a b x = 0 → (0 ≤ j ∧ j ≤ (gN S : Int) - 1) ∧ (0 ≤ a ∧ a ≤ 3) ∧ 0 ≤ b ∧ b ≤ 3 := by unfold erC; grind
  refine g_aload_n X dX3_setConflict_0 rfl hl 0 rfl ?_
  refine g_aload_n X dX3_setConflict_1 rfl hl 0 rfl ?_
  refine g_iload_n X dX3_setConflict_2 rfl hl 1 rfl ?_
  refine g_iload_n X dX3_setConflict_3 rfl hl 2 rfl ?_
  refine g_iload_n X dX3_setConflict_4 rfl hl 3 rfl ?_
  refine g_iload X dX3_setConflict_5 hl 4 rfl ?_
  refine g_pV X hk (As := [.int (iI j), .int (iI a), .int (iI b), .int (iI x)]) (rest := [.ref (am 0)]) rfl (MP.O hM) (m_errorOfConflict l E am S M s.heap hM hI hR j a b x (by omega) (by omega) (by omega) (by omega)) 4 (lw_V q702 q704 qs16 q48 q705) (by decide +kernel) ⟨⟨Nat.le_of_ble_eq_true rfl, Nat.le_of_ble_eq_true rfl⟩, Nat.le_of_ble_eq_true rfl, Nat.le_of_ble_eq_true rfl⟩ rfl rfl hl.1 (Nat.le_of_ble_eq_true rfl) dX3_setConflict_7 ?_
  refine g_calli (g_runV X hk (As := [.int (iI (erC S j a b x))]) (rest := []) rfl (MP.O hM) (m_holds l E am M s.heap hM (erC S j a b x) (by omega)) 1 (lw_V q694 q696 qs15 q48 q697) (by decide +kernel) ⟨⟨Nat.le_of_ble_eq_true rfl, Nat.le_of_ble_eq_true rfl⟩, Nat.le_of_ble_eq_true rfl, Nat.le_of_ble_eq_true rfl⟩ rfl rfl hl.1 (Nat.le_of_ble_eq_true rfl) dX3_setConflict_10) hk hS (fun q h => h) (MP.N hM) (fun z_ H locs hP_ hk hz_ ho_ hS => ?_)
  obtain ⟨hz0_, hM⟩ := hP_
  subst hz0_
  obtain ⟨M16, eM16⟩ : ∃ M_ : MS, M_ = mset M 0 0 (erC S j a b x) := ⟨_, rfl⟩
  rw [← eM16] at hM
  have qM16 : mQ M M16 := by rw [eM16]; exact mset_Q M (Or.inl rfl)
  have tM16 : M16 0 0 = (erC S j a b x) := by rw [eM16]; exact mset_s _ _ _ _
  have zM16 : ∀ f i, f ≠ 0 → M16 f i = M f i := fun f i hf => by rw [eM16]; exact mset_n _ _ (fun e => hf e.1)
  have hR : MR S M16 := hR.Q qM16
  have hMI : mI M16 := hMI.Q qM16
  have h13 := bZ_le (decide (erC S j a b x = 0))
  refine g_if_ne X dX3_setConflict_13 (tgt := 18) (by decide) (by omega) (fun c13 => ?_) (fun c13 => ?_)
  · have hz : erC S j a b x = 0 := by grind [bZ]
    have hj1 := hj0 hz
    refine g_aload_n X dX3_setConflict_18 rfl hl 0 rfl ?_
    refine g_get X hk (v := .ref (am 4)) in_X3 rfl (MP.O hM) 4 (by decide) q605 (rfl) dX3_setConflict_19 ?_
    refine g_iload_n X dX3_setConflict_22 rfl hl 1 rfl ?_
    refine g_iload_n X dX3_setConflict_23 rfl hl 2 rfl ?_
    refine g_iload_n X dX3_setConflict_24 rfl hl 3 rfl ?_
    refine g_pS X hk (As := [.int (iI j), .int (iI a), .int (iI b)]) (rest := [.ref (am 4)]) (m_conflict l E j a b H) 3 (lw_S q716 q717 q48 q718) (by decide +kernel) ⟨⟨Nat.le_of_ble_eq_true rfl, Nat.le_of_ble_eq_true rfl⟩, Nat.le_of_ble_eq_true rfl, Nat.le_of_ble_eq_true rfl⟩ rfl rfl hl.1 (Nat.le_of_ble_eq_true rfl) dX3_setConflict_25 ?_
    refine g_ialdv X hk (j := (16 * j.toNat) + (4 * a.toNat + b.toNat)) (n := 80) (f := (M16 4)) (v := (gCf S j.toNat (4 * a.toNat + b.toNat))) (MP.I hM 4 rfl) (by omega) (by omega) (MR.cf hR (by omega) (by omega)) dX3_setConflict_28 ?_
    refine g_istore (lv' := [(5, .int (iI (gCf S j.toNat (4 * a.toNat + b.toNat)))), (0, .ref (am 0)), (1, .int (iI j)), (2, .int (iI a)), (3, .int (iI b)), (4, .int (iI x))]) X dX3_setConflict_29 hl (by decide) rfl (fun ls hl => ?_)
    refine g_aload_n X dX3_setConflict_31 rfl hl 1 rfl ?_
    refine g_get X hk (v := .ref (am 4)) in_X3 rfl (MP.O hM) 4 (by decide) q605 (rfl) dX3_setConflict_32 ?_
    refine g_iload_n X dX3_setConflict_35 rfl hl 2 rfl ?_
    refine g_iload_n X dX3_setConflict_36 rfl hl 3 rfl ?_
    refine g_iload_n X dX3_setConflict_37 rfl hl 4 rfl ?_
    refine g_pS X hk (As := [.int (iI j), .int (iI a), .int (iI b)]) (rest := [.ref (am 4)]) (m_conflict l E j a b H) 3 (lw_S q716 q717 q48 q718) (by decide +kernel) ⟨⟨Nat.le_of_ble_eq_true rfl, Nat.le_of_ble_eq_true rfl⟩, Nat.le_of_ble_eq_true rfl, Nat.le_of_ble_eq_true rfl⟩ rfl rfl hl.1 (Nat.le_of_ble_eq_true rfl) dX3_setConflict_38 ?_
    refine g_iload X dX3_setConflict_41 hl 5 rfl ?_
    refine g_iast X hk hS (MP.A0 hM (Or.inr rfl)) (j := 16 * j.toNat + (4 * a.toNat + b.toNat)) (n := 80) (f := (M16 4)) (MP.I hM 4 rfl) (by omega) (by omega) dX3_setConflict_43 (fun H locs hc_ hk hz_ ho_ hS => ?_)
    obtain ⟨M17, eM17⟩ : ∃ M_ : MS, M_ = mset M16 4 (16 * j.toNat + (4 * a.toNat + b.toNat)) x := ⟨_, rfl⟩
    have hM : MP E am M17 H := by rw [eM17]; exact MP.ast hM 4 rfl hc_ ho_
    have gM17 : ∀ f i, M17 f i = if f = 4 ∧ i = 16 * j.toNat + (4 * a.toNat + b.toNat) then x else M16 f i := by intro f i; rw [eM17]; rfl
    have cM17 : mC M16 M17 := by rw [eM17]; exact mC.set _ (by omega)
    have hR : MR (gset S 1 j.toNat (4 * a.toNat + b.toNat) x) M17 := by rw [eM17]; exact MR_cf hR (by omega) (by omega)
    refine g_aload_n X dX3_setConflict_44 rfl hl 1 rfl ?_
    refine g_get X hk (v := .ref (am 4)) in_X3 rfl (MP.O hM) 4 (by decide) q605 (rfl) dX3_setConflict_45 ?_
    refine g_iload_n X dX3_setConflict_48 rfl hl 2 rfl ?_
    refine g_iload_n X dX3_setConflict_49 rfl hl 4 rfl ?_
    refine g_iload_n X dX3_setConflict_50 rfl hl 3 rfl ?_
    refine g_pS X hk (As := [.int (iI j), .int (iI b), .int (iI a)]) (rest := [.ref (am 4)]) (m_conflict l E j b a H) 3 (lw_S q716 q717 q48 q718) (by decide +kernel) ⟨⟨Nat.le_of_ble_eq_true rfl, Nat.le_of_ble_eq_true rfl⟩, Nat.le_of_ble_eq_true rfl, Nat.le_of_ble_eq_true rfl⟩ rfl rfl hl.1 (Nat.le_of_ble_eq_true rfl) dX3_setConflict_51 ?_
    refine g_iload X dX3_setConflict_54 hl 5 rfl ?_
    refine g_iast X hk hS (MP.A0 hM (Or.inr rfl)) (j := 16 * j.toNat + (4 * b.toNat + a.toNat)) (n := 80) (f := (M17 4)) (MP.I hM 4 rfl) (by omega) (by omega) dX3_setConflict_56 (fun H locs hc_ hk hz_ ho_ hS => ?_)
    obtain ⟨M18, eM18⟩ : ∃ M_ : MS, M_ = mset M17 4 (16 * j.toNat + (4 * b.toNat + a.toNat)) x := ⟨_, rfl⟩
    have hM : MP E am M18 H := by rw [eM18]; exact MP.ast hM 4 rfl hc_ ho_
    have gM18 : ∀ f i, M18 f i = if f = 4 ∧ i = 16 * j.toNat + (4 * b.toNat + a.toNat) then x else M17 f i := by intro f i; rw [eM18]; rfl
    have cM18 : mC M17 M18 := by rw [eM18]; exact mC.set _ (by omega)
    have hR : MR (gset (gset S 1 j.toNat (4 * a.toNat + b.toNat) x) 1 j.toNat (4 * b.toNat + a.toNat) x) M18 := by rw [eM18]; exact MR_cf hR (show j.toNat < gN S by omega) (by omega)
    refine g_iload X dX3_setConflict_57 hl 0 rfl ?_
    exact g_iret X hS (⟨M18, hM, by grind, fun _ => ⟨rfl, hR, (((qM16).C).trans cM17).trans cM18⟩, fun h => absurd (by grind [bZ]) h⟩) ⟨Nat.le_of_ble_eq_true rfl, Nat.le_of_ble_eq_true rfl⟩ dX3_setConflict_59
  · refine g_iconst X dX3_setConflict_16 ?_
    exact g_iret X hS (⟨M16, hM, tM16, fun h => absurd h (by grind [bZ]), fun _ => qM16⟩) ⟨Nat.le_of_ble_eq_true rfl, Nat.le_of_ble_eq_true rfl⟩ dX3_setConflict_17
set_option maxHeartbeats 4000000 in
theorem m_setPhases (l : Launch) (E : EP) (am : Nat → Nat) (S : GS) (M : MS) (H : Heap) (hM : MP E am M H) (hI : gI S) (hR : MR S M) (hMI : mI M) (j a b c d : Int) (hj : -2147483648 ≤ j ∧ j ≤ 2147483647) (ha : -2147483648 ≤ a ∧ a ≤ 2147483647) (hb : -2147483648 ≤ b ∧ b ≤ 2147483647) (hc : -2147483648 ≤ c ∧ c ≤ 2147483647) (hd : -2147483648 ≤ d ∧ d ≤ 2147483647) : gMi l E yX3_setPhases cX3_setPhases 8 .int 4 0 0 H [.ref (am 0), .int (iI j), .int (iI a), .int (iI b), .int (iI c), .int (iI d)] (mW am) (fun z H1 => ∃ M1, MP E am M1 H1 ∧ M1 0 0 = erP S j a b c d ∧ (erP S j a b c d = 0 → z = (phN4 b c d : Int) ∧ MR (gphs S j.toNat (phN4 b c d) (phF a b c d)) M1 ∧ mC M M1) ∧ (¬ erP S j a b c d = 0 → mQ M M1)) := by
  refine g_met (plainFor_of_name (by decide)) (Nat.le_of_ble_eq_true rfl) (fun P_ e_ s M_ bl mt_ c_ ls X hmeth_ hk hh hl => ?_)
  subst hh
  have X : gX P_ s M_ mt_ c_ cX3_setPhases 8 ([.ref (am 0), .int (iI j), .int (iI a), .int (iI b), .int (iI c), .int (iI d)] : List Value).toArray RX3 (some .int) := X
  have hl : lv_has ls 8 [(0, .ref (am 0)), (1, .int (iI j)), (2, .int (iI a)), (3, .int (iI b)), (4, .int (iI c)), (5, .int (iI d))] := hl
  have hS : va_S (mW am) s.heap s.heap [] := va_S.rf
  have hn5 := hI.1.1
  have hnp : ∀ i, i < gN S → 1 ≤ gNp S i ∧ gNp S i ≤ 4 := fun i hi => (hI.2.2 i hi).1
  have hrun := hI.1.2.1
  have join_64 : gHide (∀ (z : Int) (ls : Array Slot), z = (bZ (decide ((1 ≤ a ∧ a ≤ 15) ∧ (0 ≤ b ∧ b ≤ 15) ∧ (0 ≤ c ∧ c ≤ (if b = 0 then 0 else 15)) ∧ (0 ≤ d ∧ d ≤ (if c = 0 then 0 else 15))))) → lv_has ls 8 [(0, .ref (am 0)), (1, .int (iI j)), (2, .int (iI a)), (3, .int (iI b)), (4, .int (iI c)), (5, .int (iI d))] → W P_ l e_ (gR 4 0 0) s M_ ([.ref (am 0), .int (iI j), .int (iI a), .int (iI b), .int (iI c), .int (iI d)] : List Value).toArray bl mt_ c_ s.heap [] 0 0 (MQ bl (gQi (mW am) (fun z H1 => ∃ M1, MP E am M1 H1 ∧ M1 0 0 = erP S j a b c d ∧ (erP S j a b c d = 0 → z = (phN4 b c d : Int) ∧ MR (gphs S j.toNat (phN4 b c d) (phF a b c d)) M1 ∧ mC M M1) ∧ (¬ erP S j a b c d = 0 → mQ M M1))) ([.ref (am 0), .int (iI j), .int (iI a), .int (iI b), .int (iI c), .int (iI d)] : List Value).toArray s 0 0 (mW am)) (F0 M_ 64 ls [.int (iI z)])) := by
    intro z ls e_z hl
    subst e_z
    have hl : lv_has ls 8 [(0, .ref (am 0)), (1, .int (iI j)), (2, .int (iI a)), (3, .int (iI b)), (4, .int (iI c)), (5, .int (iI d))] := hl
    have h64 := bZ_le (decide ((1 ≤ a ∧ a ≤ 15) ∧ (0 ≤ b ∧ b ≤ 15) ∧ (0 ≤ c ∧ c ≤ (if b = 0 then 0 else 15)) ∧ (0 ≤ d ∧ d ≤ (if c = 0 then 0 else 15))))
    refine g_istore (lv' := [(6, .int (iI (bZ (decide ((1 ≤ a ∧ a ≤ 15) ∧ (0 ≤ b ∧ b ≤ 15) ∧ (0 ≤ c ∧ c ≤ (if b = 0 then 0 else 15)) ∧ (0 ≤ d ∧ d ≤ (if c = 0 then 0 else 15))))))), (0, .ref (am 0)), (1, .int (iI j)), (2, .int (iI a)), (3, .int (iI b)), (4, .int (iI c)), (5, .int (iI d))]) X dX3_setPhases_64 hl (by decide) rfl (fun ls hl => ?_)
    have join_122 : gHide (∀ (z : Int) (ls : Array Slot), (((0 ≤ j ∧ j ≤ (gN S : Int) - 1) → ((1 ≤ a ∧ a ≤ 15) ∧ (0 ≤ b ∧ b ≤ 15) ∧ (0 ≤ c ∧ c ≤ (if b = 0 then 0 else 15)) ∧ (0 ≤ d ∧ d ≤ (if c = 0 then 0 else 15))) → z = bZ (decide (pcf4 S j.toNat a b c d = false))) ∧ 0 ≤ z ∧ z ≤ 1) → lv_has ls 8 [(6, .int (iI (bZ (decide ((1 ≤ a ∧ a ≤ 15) ∧ (0 ≤ b ∧ b ≤ 15) ∧ (0 ≤ c ∧ c ≤ (if b = 0 then 0 else 15)) ∧ (0 ≤ d ∧ d ≤ (if c = 0 then 0 else 15))))))), (0, .ref (am 0)), (1, .int (iI j)), (2, .int (iI a)), (3, .int (iI b)), (4, .int (iI c)), (5, .int (iI d))] → W P_ l e_ (gR 4 0 0) s M_ ([.ref (am 0), .int (iI j), .int (iI a), .int (iI b), .int (iI c), .int (iI d)] : List Value).toArray bl mt_ c_ s.heap [] 0 0 (MQ bl (gQi (mW am) (fun z H1 => ∃ M1, MP E am M1 H1 ∧ M1 0 0 = erP S j a b c d ∧ (erP S j a b c d = 0 → z = (phN4 b c d : Int) ∧ MR (gphs S j.toNat (phN4 b c d) (phF a b c d)) M1 ∧ mC M M1) ∧ (¬ erP S j a b c d = 0 → mQ M M1))) ([.ref (am 0), .int (iI j), .int (iI a), .int (iI b), .int (iI c), .int (iI d)] : List Value).toArray s 0 0 (mW am)) (F0 M_ 122 ls [.int (iI z)])) := by
      intro z ls hz122 hl
      have hl : lv_has ls 8 [(6, .int (iI (bZ (decide ((1 ≤ a ∧ a ≤ 15) ∧ (0 ≤ b ∧ b ≤ 15) ∧ (0 ≤ c ∧ c ≤ (if b = 0 then 0 else 15)) ∧ (0 ≤ d ∧ d ≤ (if c = 0 then 0 else 15))))))), (0, .ref (am 0)), (1, .int (iI j)), (2, .int (iI a)), (3, .int (iI b)), (4, .int (iI c)), (5, .int (iI d))] := hl
      refine g_istore (lv' := [(7, .int (iI z)), (6, .int (iI (bZ (decide ((1 ≤ a ∧ a ≤ 15) ∧ (0 ≤ b ∧ b ≤ 15) ∧ (0 ≤ c ∧ c ≤ (if b = 0 then 0 else 15)) ∧ (0 ≤ d ∧ d ≤ (if c = 0 then 0 else 15))))))), (0, .ref (am 0)), (1, .int (iI j)), (2, .int (iI a)), (3, .int (iI b)), (4, .int (iI c)), (5, .int (iI d))]) X dX3_setPhases_122 hl (by decide) rfl (fun ls hl => ?_)
      refine g_aload_n X dX3_setPhases_124 rfl hl 2 rfl ?_
      have join_163 : gHide (∀ (y : Int) (ls : Array Slot), y = (erP S j a b c d) → lv_has ls 8 [(7, .int (iI z)), (6, .int (iI (bZ (decide ((1 ≤ a ∧ a ≤ 15) ∧ (0 ≤ b ∧ b ≤ 15) ∧ (0 ≤ c ∧ c ≤ (if b = 0 then 0 else 15)) ∧ (0 ≤ d ∧ d ≤ (if c = 0 then 0 else 15))))))), (0, .ref (am 0)), (1, .int (iI j)), (2, .int (iI a)), (3, .int (iI b)), (4, .int (iI c)), (5, .int (iI d))] → W P_ l e_ (gR 4 0 0) s M_ ([.ref (am 0), .int (iI j), .int (iI a), .int (iI b), .int (iI c), .int (iI d)] : List Value).toArray bl mt_ c_ s.heap [] 0 0 (MQ bl (gQi (mW am) (fun z H1 => ∃ M1, MP E am M1 H1 ∧ M1 0 0 = erP S j a b c d ∧ (erP S j a b c d = 0 → z = (phN4 b c d : Int) ∧ MR (gphs S j.toNat (phN4 b c d) (phF a b c d)) M1 ∧ mC M M1) ∧ (¬ erP S j a b c d = 0 → mQ M M1))) ([.ref (am 0), .int (iI j), .int (iI a), .int (iI b), .int (iI c), .int (iI d)] : List Value).toArray s 0 0 (mW am)) (F0 M_ 163 ls [.int (iI y), .ref (am 0)])) := by
        intro y ls e_y hl
        subst e_y
        have hl : lv_has ls 8 [(7, .int (iI z)), (6, .int (iI (bZ (decide ((1 ≤ a ∧ a ≤ 15) ∧ (0 ≤ b ∧ b ≤ 15) ∧ (0 ≤ c ∧ c ≤ (if b = 0 then 0 else 15)) ∧ (0 ≤ d ∧ d ≤ (if c = 0 then 0 else 15))))))), (0, .ref (am 0)), (1, .int (iI j)), (2, .int (iI a)), (3, .int (iI b)), (4, .int (iI c)), (5, .int (iI d))] := hl
        have her : 0 ≤ erP S j a b c d ∧ erP S j a b c d ≤ 3 := by unfold erP; grind
        have hj0 : erP S j a b c d = 0 → 0 ≤ j ∧ j ≤ (gN S : Int) - 1 := by unfold erP; grind
        refine g_calli (g_runV X hk (As := [.int (iI (erP S j a b c d))]) (rest := []) rfl (MP.O hM) (m_holds l E am M s.heap hM (erP S j a b c d) (by omega)) 1 (lw_V q694 q696 qs15 q48 q697) (by decide +kernel) ⟨⟨Nat.le_of_ble_eq_true rfl, Nat.le_of_ble_eq_true rfl⟩, Nat.le_of_ble_eq_true rfl, Nat.le_of_ble_eq_true rfl⟩ rfl rfl hl.1 (Nat.le_of_ble_eq_true rfl) dX3_setPhases_163) hk hS (fun q h => h) (MP.N hM) (fun z_ H locs hP_ hk hz_ ho_ hS => ?_)
        obtain ⟨hz0_, hM⟩ := hP_
        subst hz0_
        obtain ⟨M19, eM19⟩ : ∃ M_ : MS, M_ = mset M 0 0 (erP S j a b c d) := ⟨_, rfl⟩
        rw [← eM19] at hM
        have qM19 : mQ M M19 := by rw [eM19]; exact mset_Q M (Or.inl rfl)
        have tM19 : M19 0 0 = (erP S j a b c d) := by rw [eM19]; exact mset_s _ _ _ _
        have zM19 : ∀ f i, f ≠ 0 → M19 f i = M f i := fun f i hf => by rw [eM19]; exact mset_n _ _ (fun e => hf e.1)
        have hR : MR S M19 := hR.Q qM19
        have hMI : mI M19 := hMI.Q qM19
        have h166 := bZ_le (decide (erP S j a b c d = 0))
        refine g_if_ne X dX3_setPhases_166 (tgt := 171) (by decide) (by omega) (fun c166 => ?_) (fun c166 => ?_)
        · have hz : erP S j a b c d = 0 := by grind [bZ]
          have hj1 := hj0 hz
          have hq4 := phN4_le b c d
          refine g_aload_n X dX3_setPhases_171 rfl hl 2 rfl ?_
          refine g_get X hk (v := .ref (am 5)) in_X3 rfl (MP.O hM) 5 (by decide) q606 (rfl) dX3_setPhases_172 ?_
          refine g_iconst X dX3_setPhases_175 ?_
          refine g_iload_n X dX3_setPhases_176 rfl hl 3 rfl ?_
          refine g_imul X dX3_setPhases_177 ?_
          refine g_iload_n X dX3_setPhases_178 rfl hl 4 rfl ?_
          refine g_iast X hk hS (MP.A0 hM (Or.inr rfl)) (j := 4 * j.toNat) (n := 20) (f := (M19 5)) (MP.I hM 5 rfl) (by omega) (by omega) dX3_setPhases_179 (fun H locs hc_ hk hz_ ho_ hS => ?_)
          obtain ⟨M20, eM20⟩ : ∃ M_ : MS, M_ = mset M19 5 (4 * j.toNat) a := ⟨_, rfl⟩
          have hM : MP E am M20 H := by rw [eM20]; exact MP.ast hM 5 rfl hc_ ho_
          have gM20 : ∀ f i, M20 f i = if f = 5 ∧ i = 4 * j.toNat then a else M19 f i := by intro f i; rw [eM20]; rfl
          have cM20 : mC M19 M20 := by rw [eM20]; exact mC.set _ (by omega)
          refine g_aload_n X dX3_setPhases_180 rfl hl 2 rfl ?_
          refine g_get X hk (v := .ref (am 5)) in_X3 rfl (MP.O hM) 5 (by decide) q606 (rfl) dX3_setPhases_181 ?_
          refine g_iconst X dX3_setPhases_184 ?_
          refine g_iload_n X dX3_setPhases_185 rfl hl 3 rfl ?_
          refine g_imul X dX3_setPhases_186 ?_
          refine g_iconst X dX3_setPhases_187 ?_
          refine g_iadd X dX3_setPhases_188 ?_
          refine g_iload_n X dX3_setPhases_189 rfl hl 5 rfl ?_
          refine g_iast X hk hS (MP.A0 hM (Or.inr rfl)) (j := 4 * j.toNat + 1) (n := 20) (f := (M20 5)) (MP.I hM 5 rfl) (by omega) (by omega) dX3_setPhases_190 (fun H locs hc_ hk hz_ ho_ hS => ?_)
          obtain ⟨M21, eM21⟩ : ∃ M_ : MS, M_ = mset M20 5 (4 * j.toNat + 1) b := ⟨_, rfl⟩
          have hM : MP E am M21 H := by rw [eM21]; exact MP.ast hM 5 rfl hc_ ho_
          have gM21 : ∀ f i, M21 f i = if f = 5 ∧ i = 4 * j.toNat + 1 then b else M20 f i := by intro f i; rw [eM21]; rfl
          have cM21 : mC M20 M21 := by rw [eM21]; exact mC.set _ (by omega)
          refine g_aload_n X dX3_setPhases_191 rfl hl 2 rfl ?_
          refine g_get X hk (v := .ref (am 5)) in_X3 rfl (MP.O hM) 5 (by decide) q606 (rfl) dX3_setPhases_192 ?_
          refine g_iconst X dX3_setPhases_195 ?_
          refine g_iload_n X dX3_setPhases_196 rfl hl 3 rfl ?_
          refine g_imul X dX3_setPhases_197 ?_
          refine g_iconst X dX3_setPhases_198 ?_
          refine g_iadd X dX3_setPhases_199 ?_
          refine g_iload X dX3_setPhases_200 hl 6 rfl ?_
          refine g_iast X hk hS (MP.A0 hM (Or.inr rfl)) (j := 4 * j.toNat + 2) (n := 20) (f := (M21 5)) (MP.I hM 5 rfl) (by omega) (by omega) dX3_setPhases_202 (fun H locs hc_ hk hz_ ho_ hS => ?_)
          obtain ⟨M22, eM22⟩ : ∃ M_ : MS, M_ = mset M21 5 (4 * j.toNat + 2) c := ⟨_, rfl⟩
          have hM : MP E am M22 H := by rw [eM22]; exact MP.ast hM 5 rfl hc_ ho_
          have gM22 : ∀ f i, M22 f i = if f = 5 ∧ i = 4 * j.toNat + 2 then c else M21 f i := by intro f i; rw [eM22]; rfl
          have cM22 : mC M21 M22 := by rw [eM22]; exact mC.set _ (by omega)
          refine g_aload_n X dX3_setPhases_203 rfl hl 2 rfl ?_
          refine g_get X hk (v := .ref (am 5)) in_X3 rfl (MP.O hM) 5 (by decide) q606 (rfl) dX3_setPhases_204 ?_
          refine g_iconst X dX3_setPhases_207 ?_
          refine g_iload_n X dX3_setPhases_208 rfl hl 3 rfl ?_
          refine g_imul X dX3_setPhases_209 ?_
          refine g_iconst X dX3_setPhases_210 ?_
          refine g_iadd X dX3_setPhases_211 ?_
          refine g_iload X dX3_setPhases_212 hl 7 rfl ?_
          refine g_iast X hk hS (MP.A0 hM (Or.inr rfl)) (j := 4 * j.toNat + 3) (n := 20) (f := (M22 5)) (MP.I hM 5 rfl) (by omega) (by omega) dX3_setPhases_214 (fun H locs hc_ hk hz_ ho_ hS => ?_)
          obtain ⟨M23, eM23⟩ : ∃ M_ : MS, M_ = mset M22 5 (4 * j.toNat + 3) d := ⟨_, rfl⟩
          have hM : MP E am M23 H := by rw [eM23]; exact MP.ast hM 5 rfl hc_ ho_
          have gM23 : ∀ f i, M23 f i = if f = 5 ∧ i = 4 * j.toNat + 3 then d else M22 f i := by intro f i; rw [eM23]; rfl
          have cM23 : mC M22 M23 := by rw [eM23]; exact mC.set _ (by omega)
          refine g_aload_n X dX3_setPhases_215 rfl hl 2 rfl ?_
          refine g_get X hk (v := .ref (am 6)) in_X3 rfl (MP.O hM) 6 (by decide) q607 (rfl) dX3_setPhases_216 ?_
          refine g_iload_n X dX3_setPhases_219 rfl hl 3 rfl ?_
          have join_247 : gHide (∀ (y : Int) (ls : Array Slot), y = ((phN4 b c d : Nat) : Int) → lv_has ls 8 [(7, .int (iI z)), (6, .int (iI (bZ (decide ((1 ≤ a ∧ a ≤ 15) ∧ (0 ≤ b ∧ b ≤ 15) ∧ (0 ≤ c ∧ c ≤ (if b = 0 then 0 else 15)) ∧ (0 ≤ d ∧ d ≤ (if c = 0 then 0 else 15))))))), (0, .ref (am 0)), (1, .int (iI j)), (2, .int (iI a)), (3, .int (iI b)), (4, .int (iI c)), (5, .int (iI d))] → W P_ l e_ (gR 4 0 0) s M_ ([.ref (am 0), .int (iI j), .int (iI a), .int (iI b), .int (iI c), .int (iI d)] : List Value).toArray bl mt_ c_ H locs 0 0 (MQ bl (gQi (mW am) (fun z H1 => ∃ M1, MP E am M1 H1 ∧ M1 0 0 = erP S j a b c d ∧ (erP S j a b c d = 0 → z = (phN4 b c d : Int) ∧ MR (gphs S j.toNat (phN4 b c d) (phF a b c d)) M1 ∧ mC M M1) ∧ (¬ erP S j a b c d = 0 → mQ M M1))) ([.ref (am 0), .int (iI j), .int (iI a), .int (iI b), .int (iI c), .int (iI d)] : List Value).toArray s 0 0 (mW am)) (F0 M_ 247 ls [.int (iI y), .int (iI j), .ref (am 6)])) := by
            intro y ls e_y hl
            subst e_y
            have hl : lv_has ls 8 [(7, .int (iI z)), (6, .int (iI (bZ (decide ((1 ≤ a ∧ a ≤ 15) ∧ (0 ≤ b ∧ b ≤ 15) ∧ (0 ≤ c ∧ c ≤ (if b = 0 then 0 else 15)) ∧ (0 ≤ d ∧ d ≤ (if c = 0 then 0 else 15))))))), (0, .ref (am 0)), (1, .int (iI j)), (2, .int (iI a)), (3, .int (iI b)), (4, .int (iI c)), (5, .int (iI d))] := hl
            refine g_iast X hk hS (MP.A0 hM (Or.inr rfl)) (j := j.toNat) (n := 5) (f := (M23 6)) (MP.I hM 6 rfl) (by omega) (by omega) dX3_setPhases_247 (fun H locs hc_ hk hz_ ho_ hS => ?_)
            obtain ⟨M24, eM24⟩ : ∃ M_ : MS, M_ = mset M23 6 j.toNat ((phN4 b c d : Nat) : Int) := ⟨_, rfl⟩
            have hM : MP E am M24 H := by rw [eM24]; exact MP.ast hM 6 rfl hc_ ho_
            have gM24 : ∀ f i, M24 f i = if f = 6 ∧ i = j.toNat then ((phN4 b c d : Nat) : Int) else M23 f i := by intro f i; rw [eM24]; rfl
            have cM24 : mC M23 M24 := by rw [eM24]; exact mC.set _ (by omega)
            have hR : MR (gphs S j.toNat (phN4 b c d) (phF a b c d)) M24 := MR_ph hR (show j.toNat < gN S by omega) hnp (by intro f i; rw [gM24, gM23, gM22, gM21, gM20])
            refine g_aload_n X dX3_setPhases_248 rfl hl 2 rfl ?_
            refine g_get X hk (v := .ref (am 6)) in_X3 rfl (MP.O hM) 6 (by decide) q607 (rfl) dX3_setPhases_249 ?_
            refine g_iload_n X dX3_setPhases_252 rfl hl 3 rfl ?_
            refine g_ialdv X hk (j := j.toNat) (n := 5) (f := (M24 6)) (v := (((phN4 b c d) : Nat) : Int)) (MP.I hM 6 rfl) (by omega) (by omega) (by rw [gM24]; exact if_pos ⟨rfl, rfl⟩) dX3_setPhases_253 ?_
            exact g_iret X hS (⟨M24, hM, by grind, fun _ => ⟨rfl, hR, ((((((qM19).C).trans cM20).trans cM21).trans cM22).trans cM23).trans cM24⟩, fun h => absurd (by grind [bZ]) h⟩) ⟨Nat.le_of_ble_eq_true rfl, Nat.le_of_ble_eq_true rfl⟩ dX3_setPhases_254
          refine g_iload_n X dX3_setPhases_220 rfl hl 5 rfl ?_
          refine g_if_ne X dX3_setPhases_221 (tgt := 228) (by decide) (by omega) (fun c221 => ?_) (fun c221 => ?_)
          · refine g_iload X dX3_setPhases_228 hl 6 rfl ?_
            refine g_if_ne X dX3_setPhases_230 (tgt := 237) (by decide) (by omega) (fun c230 => ?_) (fun c230 => ?_)
            · refine g_iload X dX3_setPhases_237 hl 7 rfl ?_
              refine g_if_ne X dX3_setPhases_239 (tgt := 246) (by decide) (by omega) (fun c239 => ?_) (fun c239 => ?_)
              · refine g_iconst X dX3_setPhases_246 ?_
                exact join_247.out 4 _ (by unfold phN4; grind) (lv_sub hl [0, 1, 2, 3, 4, 5, 6, 7] rfl)
              · refine g_iconst X dX3_setPhases_242 ?_
                refine g_goto X dX3_setPhases_243 (tgt := 247) (by decide) ?_
                exact join_247.out 3 _ (by unfold phN4; grind) (lv_sub hl [0, 1, 2, 3, 4, 5, 6, 7] rfl)
            · refine g_iconst X dX3_setPhases_233 ?_
              refine g_goto X dX3_setPhases_234 (tgt := 247) (by decide) ?_
              exact join_247.out 2 _ (by unfold phN4; grind) (lv_sub hl [0, 1, 2, 3, 4, 5, 6, 7] rfl)
          · refine g_iconst X dX3_setPhases_224 ?_
            refine g_goto X dX3_setPhases_225 (tgt := 247) (by decide) ?_
            exact join_247.out 1 _ (by unfold phN4; grind) (lv_sub hl [0, 1, 2, 3, 4, 5, 6, 7] rfl)
        · refine g_iconst X dX3_setPhases_169 ?_
          exact g_iret X hS (⟨M19, hM, tM19, fun h => absurd h (by grind [bZ]), fun _ => qM19⟩) ⟨Nat.le_of_ble_eq_true rfl, Nat.le_of_ble_eq_true rfl⟩ dX3_setPhases_170
      refine g_aload_n X dX3_setPhases_125 rfl hl 2 rfl ?_
      refine g_iload_n X dX3_setPhases_126 rfl hl 3 rfl ?_
      refine g_pV X hk (As := [.int (iI j)]) (rest := [.ref (am 0)]) rfl (MP.O hM) (m_isJunction l E am S M s.heap hM hI hR j (by omega)) 1 (lw_V q706 q708 qs17 q48 q709) (by decide +kernel) ⟨⟨Nat.le_of_ble_eq_true rfl, Nat.le_of_ble_eq_true rfl⟩, Nat.le_of_ble_eq_true rfl, Nat.le_of_ble_eq_true rfl⟩ rfl rfl hl.1 (Nat.le_of_ble_eq_true rfl) dX3_setPhases_127 ?_
      have h130 := bZ_le (decide (0 ≤ j ∧ j ≤ (gN S : Int) - 1))
      refine g_if_ne X dX3_setPhases_130 (tgt := 137) (by decide) (by omega) (fun c130 => ?_) (fun c130 => ?_)
      · refine g_iload X dX3_setPhases_137 hl 1 rfl ?_
        refine g_if_ne X dX3_setPhases_139 (tgt := 146) (by decide) (by omega) (fun c139 => ?_) (fun c139 => ?_)
        · refine g_iload X dX3_setPhases_146 hl 0 rfl ?_
          refine g_if_ne X dX3_setPhases_148 (tgt := 158) (by decide) (by omega) (fun c148 => ?_) (fun c148 => ?_)
          · refine g_iconst X dX3_setPhases_158 ?_
            refine g_goto X dX3_setPhases_159 (tgt := 163) (by decide) ?_
            exact join_163.out 3 _ (by unfold erP; grind [bZ]) (lv_sub hl [0, 1, 2, 3, 4, 5, 6, 7] rfl)
          · refine g_aload_n X dX3_setPhases_151 rfl hl 2 rfl ?_
            refine g_get X hk (v := .int (iI (gRun S))) in_X3 rfl (MP.O hM) 3 (by decide) q604 (sI (MR.run hR)) dX3_setPhases_152 ?_
            refine g_if_eq X dX3_setPhases_155 (tgt := 162) (by decide) (by omega) (fun c155 => ?_) (fun c155 => ?_)
            · refine g_iconst X dX3_setPhases_162 ?_
              exact join_163.out 0 _ (by unfold erP; grind [bZ]) (lv_sub hl [0, 1, 2, 3, 4, 5, 6, 7] rfl)
            · refine g_iconst X dX3_setPhases_158 ?_
              refine g_goto X dX3_setPhases_159 (tgt := 163) (by decide) ?_
              exact join_163.out 3 _ (by unfold erP; grind [bZ]) (lv_sub hl [0, 1, 2, 3, 4, 5, 6, 7] rfl)
        · refine g_iconst X dX3_setPhases_142 ?_
          refine g_goto X dX3_setPhases_143 (tgt := 163) (by decide) ?_
          exact join_163.out 2 _ (by unfold erP; grind [bZ]) (lv_sub hl [0, 1, 2, 3, 4, 5, 6, 7] rfl)
      · refine g_iconst X dX3_setPhases_133 ?_
        refine g_goto X dX3_setPhases_134 (tgt := 163) (by decide) ?_
        exact join_163.out 1 _ (by unfold erP; grind [bZ]) (lv_sub hl [0, 1, 2, 3, 4, 5, 6, 7] rfl)
    refine g_aload_n X dX3_setPhases_66 rfl hl 1 rfl ?_
    refine g_iload_n X dX3_setPhases_67 rfl hl 2 rfl ?_
    refine g_pV X hk (As := [.int (iI j)]) (rest := []) rfl (MP.O hM) (m_isJunction l E am S M s.heap hM hI hR j (by omega)) 1 (lw_V q706 q708 qs17 q48 q709) (by decide +kernel) ⟨⟨Nat.le_of_ble_eq_true rfl, Nat.le_of_ble_eq_true rfl⟩, Nat.le_of_ble_eq_true rfl, Nat.le_of_ble_eq_true rfl⟩ rfl rfl hl.1 (Nat.le_of_ble_eq_true rfl) dX3_setPhases_68 ?_
    have h71 := bZ_le (decide (0 ≤ j ∧ j ≤ (gN S : Int) - 1))
    refine g_if_eq X dX3_setPhases_71 (tgt := 121) (by decide) (by omega) (fun c71 => ?_) (fun c71 => ?_)
    · refine g_iconst X dX3_setPhases_121 ?_
      exact join_122.out 0 _ (by unfold pcf4; grind [bZ]) (lv_sub hl [0, 1, 2, 3, 4, 5, 6] rfl)
    · refine g_iload X dX3_setPhases_74 hl 0 rfl ?_
      refine g_if_eq X dX3_setPhases_76 (tgt := 121) (by decide) (by omega) (fun c76 => ?_) (fun c76 => ?_)
      · refine g_iconst X dX3_setPhases_121 ?_
        exact join_122.out 0 _ (by unfold pcf4; grind [bZ]) (lv_sub hl [0, 1, 2, 3, 4, 5, 6] rfl)
      · have hj79 : 0 ≤ j ∧ j ≤ (gN S : Int) - 1 := by grind [bZ]
        have hbp : ∀ v, badK v (gCf S j.toNat) 16 = !pcfK v (gCf S j.toNat) 16 := fun v => bad_pcf (hI.2.2 j.toNat (by omega)).2.2.1 16 (Nat.le_refl _)
        have hbz := fun v => bZ_le (badK v (gCf S j.toNat) 16)
        refine g_aload_n X dX3_setPhases_79 rfl hl 1 rfl ?_
        refine g_iload_n X dX3_setPhases_80 rfl hl 2 rfl ?_
        refine g_iload_n X dX3_setPhases_81 rfl hl 3 rfl ?_
        have hcj_ := m_isBad l E am S M s.heap hM hI hR j.toNat (by omega) a (by omega)
        rw [Int.toNat_of_nonneg (show 0 ≤ j by omega)] at hcj_
        refine g_pV X hk (As := [.int (iI j), .int (iI a)]) (rest := []) rfl (MP.O hM) (hcj_) 2 (lw_V q723 q725 qs18 q48 q726) (by decide +kernel) ⟨⟨Nat.le_of_ble_eq_true rfl, Nat.le_of_ble_eq_true rfl⟩, Nat.le_of_ble_eq_true rfl, Nat.le_of_ble_eq_true rfl⟩ rfl rfl hl.1 (Nat.le_of_ble_eq_true rfl) dX3_setPhases_82 ?_
        have h85 := hbz a
        refine g_if_ne X dX3_setPhases_85 (tgt := 117) (by decide) (by omega) (fun c85 => ?_) (fun c85 => ?_)
        · refine g_iconst X dX3_setPhases_117 ?_
          refine g_goto X dX3_setPhases_118 (tgt := 122) (by decide) ?_
          exact join_122.out 1 _ (by unfold pcf4; grind [bZ]) (lv_sub hl [0, 1, 2, 3, 4, 5, 6] rfl)
        · refine g_aload_n X dX3_setPhases_88 rfl hl 1 rfl ?_
          refine g_iload_n X dX3_setPhases_89 rfl hl 2 rfl ?_
          refine g_iload_n X dX3_setPhases_90 rfl hl 4 rfl ?_
          have hcj_ := m_isBad l E am S M s.heap hM hI hR j.toNat (by omega) b (by omega)
          rw [Int.toNat_of_nonneg (show 0 ≤ j by omega)] at hcj_
          refine g_pV X hk (As := [.int (iI j), .int (iI b)]) (rest := []) rfl (MP.O hM) (hcj_) 2 (lw_V q723 q725 qs18 q48 q726) (by decide +kernel) ⟨⟨Nat.le_of_ble_eq_true rfl, Nat.le_of_ble_eq_true rfl⟩, Nat.le_of_ble_eq_true rfl, Nat.le_of_ble_eq_true rfl⟩ rfl rfl hl.1 (Nat.le_of_ble_eq_true rfl) dX3_setPhases_91 ?_
          have h94 := hbz b
          refine g_if_ne X dX3_setPhases_94 (tgt := 117) (by decide) (by omega) (fun c94 => ?_) (fun c94 => ?_)
          · refine g_iconst X dX3_setPhases_117 ?_
            refine g_goto X dX3_setPhases_118 (tgt := 122) (by decide) ?_
            exact join_122.out 1 _ (by unfold pcf4; grind [bZ]) (lv_sub hl [0, 1, 2, 3, 4, 5, 6] rfl)
          · refine g_aload_n X dX3_setPhases_97 rfl hl 1 rfl ?_
            refine g_iload_n X dX3_setPhases_98 rfl hl 2 rfl ?_
            refine g_iload X dX3_setPhases_99 hl 5 rfl ?_
            have hcj_ := m_isBad l E am S M s.heap hM hI hR j.toNat (by omega) c (by omega)
            rw [Int.toNat_of_nonneg (show 0 ≤ j by omega)] at hcj_
            refine g_pV X hk (As := [.int (iI j), .int (iI c)]) (rest := []) rfl (MP.O hM) (hcj_) 2 (lw_V q723 q725 qs18 q48 q726) (by decide +kernel) ⟨⟨Nat.le_of_ble_eq_true rfl, Nat.le_of_ble_eq_true rfl⟩, Nat.le_of_ble_eq_true rfl, Nat.le_of_ble_eq_true rfl⟩ rfl rfl hl.1 (Nat.le_of_ble_eq_true rfl) dX3_setPhases_101 ?_
            have h104 := hbz c
            refine g_if_ne X dX3_setPhases_104 (tgt := 117) (by decide) (by omega) (fun c104 => ?_) (fun c104 => ?_)
            · refine g_iconst X dX3_setPhases_117 ?_
              refine g_goto X dX3_setPhases_118 (tgt := 122) (by decide) ?_
              exact join_122.out 1 _ (by unfold pcf4; grind [bZ]) (lv_sub hl [0, 1, 2, 3, 4, 5, 6] rfl)
            · refine g_aload_n X dX3_setPhases_107 rfl hl 1 rfl ?_
              refine g_iload_n X dX3_setPhases_108 rfl hl 2 rfl ?_
              refine g_iload X dX3_setPhases_109 hl 6 rfl ?_
              have hcj_ := m_isBad l E am S M s.heap hM hI hR j.toNat (by omega) d (by omega)
              rw [Int.toNat_of_nonneg (show 0 ≤ j by omega)] at hcj_
              refine g_pV X hk (As := [.int (iI j), .int (iI d)]) (rest := []) rfl (MP.O hM) (hcj_) 2 (lw_V q723 q725 qs18 q48 q726) (by decide +kernel) ⟨⟨Nat.le_of_ble_eq_true rfl, Nat.le_of_ble_eq_true rfl⟩, Nat.le_of_ble_eq_true rfl, Nat.le_of_ble_eq_true rfl⟩ rfl rfl hl.1 (Nat.le_of_ble_eq_true rfl) dX3_setPhases_111 ?_
              have h114 := hbz d
              refine g_if_eq X dX3_setPhases_114 (tgt := 121) (by decide) (by omega) (fun c114 => ?_) (fun c114 => ?_)
              · refine g_iconst X dX3_setPhases_121 ?_
                exact join_122.out 0 _ (by unfold pcf4; grind [bZ]) (lv_sub hl [0, 1, 2, 3, 4, 5, 6] rfl)
              · refine g_iconst X dX3_setPhases_117 ?_
                refine g_goto X dX3_setPhases_118 (tgt := 122) (by decide) ?_
                exact join_122.out 1 _ (by unfold pcf4; grind [bZ]) (lv_sub hl [0, 1, 2, 3, 4, 5, 6] rfl)
  refine g_iload_n X dX3_setPhases_0 rfl hl 2 rfl ?_
  refine g_iconst X dX3_setPhases_1 ?_
  refine g_bipush X dX3_setPhases_2 rfl ?_
  refine g_pS X hk (As := [.int (iI a), .int (iI 1), .int (iI 15)]) (rest := []) (m_in l E a 1 15 s.heap (by omega) (by omega) (by omega)) 3 (lw_S q691 q692 q48 q693) (by decide +kernel) ⟨⟨Nat.le_of_ble_eq_true rfl, Nat.le_of_ble_eq_true rfl⟩, Nat.le_of_ble_eq_true rfl, Nat.le_of_ble_eq_true rfl⟩ rfl rfl hl.1 (Nat.le_of_ble_eq_true rfl) dX3_setPhases_4 ?_
  have h7 := bZ_le (decide (1 ≤ a ∧ a ≤ 15))
  refine g_if_eq X dX3_setPhases_7 (tgt := 63) (by decide) (by omega) (fun c7 => ?_) (fun c7 => ?_)
  · refine g_iconst X dX3_setPhases_63 ?_
    exact join_64.out 0 _ (by first | (rw [decide_eq_true ⟨k7, k17, k36, k56⟩]; rfl) | grind [bZ]) (lv_sub hl [0, 1, 2, 3, 4, 5] rfl)
  · have k7 : 1 ≤ a ∧ a ≤ 15 := by grind [bZ]
    refine g_iload_n X dX3_setPhases_10 rfl hl 3 rfl ?_
    refine g_iconst X dX3_setPhases_11 ?_
    refine g_bipush X dX3_setPhases_12 rfl ?_
    refine g_pS X hk (As := [.int (iI b), .int (iI 0), .int (iI 15)]) (rest := []) (m_in l E b 0 15 s.heap (by omega) (by omega) (by omega)) 3 (lw_S q691 q692 q48 q693) (by decide +kernel) ⟨⟨Nat.le_of_ble_eq_true rfl, Nat.le_of_ble_eq_true rfl⟩, Nat.le_of_ble_eq_true rfl, Nat.le_of_ble_eq_true rfl⟩ rfl rfl hl.1 (Nat.le_of_ble_eq_true rfl) dX3_setPhases_14 ?_
    have h17 := bZ_le (decide (0 ≤ b ∧ b ≤ 15))
    refine g_if_eq X dX3_setPhases_17 (tgt := 63) (by decide) (by omega) (fun c17 => ?_) (fun c17 => ?_)
    · refine g_iconst X dX3_setPhases_63 ?_
      exact join_64.out 0 _ (by first | (rw [decide_eq_true ⟨k7, k17, k36, k56⟩]; rfl) | grind [bZ]) (lv_sub hl [0, 1, 2, 3, 4, 5] rfl)
    · have k17 : 0 ≤ b ∧ b ≤ 15 := by grind [bZ]
      refine g_iload X dX3_setPhases_20 hl 4 rfl ?_
      refine g_iconst X dX3_setPhases_22 ?_
      have join_33 : gHide (∀ (z : Int) (ls : Array Slot), z = (if b = 0 then 0 else 15) → lv_has ls 8 [(0, .ref (am 0)), (1, .int (iI j)), (2, .int (iI a)), (3, .int (iI b)), (4, .int (iI c)), (5, .int (iI d))] → W P_ l e_ (gR 4 0 0) s M_ ([.ref (am 0), .int (iI j), .int (iI a), .int (iI b), .int (iI c), .int (iI d)] : List Value).toArray bl mt_ c_ s.heap [] 0 0 (MQ bl (gQi (mW am) (fun z H1 => ∃ M1, MP E am M1 H1 ∧ M1 0 0 = erP S j a b c d ∧ (erP S j a b c d = 0 → z = (phN4 b c d : Int) ∧ MR (gphs S j.toNat (phN4 b c d) (phF a b c d)) M1 ∧ mC M M1) ∧ (¬ erP S j a b c d = 0 → mQ M M1))) ([.ref (am 0), .int (iI j), .int (iI a), .int (iI b), .int (iI c), .int (iI d)] : List Value).toArray s 0 0 (mW am)) (F0 M_ 33 ls [.int (iI z), .int (iI 0), .int (iI c)])) := by
        intro z ls e_z hl
        subst e_z
        have hl : lv_has ls 8 [(0, .ref (am 0)), (1, .int (iI j)), (2, .int (iI a)), (3, .int (iI b)), (4, .int (iI c)), (5, .int (iI d))] := hl
        have h33 : 0 ≤ (if b = 0 then (0 : Int) else 15) ∧ (if b = 0 then (0 : Int) else 15) ≤ 15 := by split <;> omega
        refine g_pS X hk (As := [.int (iI c), .int (iI 0), .int (iI (if b = 0 then 0 else 15))]) (rest := []) (m_in l E c 0 (if b = 0 then 0 else 15) s.heap (by omega) (by omega) (by omega)) 3 (lw_S q691 q692 q48 q693) (by decide +kernel) ⟨⟨Nat.le_of_ble_eq_true rfl, Nat.le_of_ble_eq_true rfl⟩, Nat.le_of_ble_eq_true rfl, Nat.le_of_ble_eq_true rfl⟩ rfl rfl hl.1 (Nat.le_of_ble_eq_true rfl) dX3_setPhases_33 ?_
        have h36 := bZ_le (decide (0 ≤ c ∧ c ≤ (if b = 0 then 0 else 15)))
        refine g_if_eq X dX3_setPhases_36 (tgt := 63) (by decide) (by omega) (fun c36 => ?_) (fun c36 => ?_)
        · refine g_iconst X dX3_setPhases_63 ?_
          exact join_64.out 0 _ (by first | (rw [decide_eq_true ⟨k7, k17, k36, k56⟩]; rfl) | grind [bZ]) (lv_sub hl [0, 1, 2, 3, 4, 5] rfl)
        · have k36 : 0 ≤ c ∧ c ≤ (if b = 0 then 0 else 15) := by grind [bZ]
          refine g_iload X dX3_setPhases_39 hl 5 rfl ?_
          refine g_iconst X dX3_setPhases_41 ?_
          have join_53 : gHide (∀ (z : Int) (ls : Array Slot), z = (if c = 0 then 0 else 15) → lv_has ls 8 [(0, .ref (am 0)), (1, .int (iI j)), (2, .int (iI a)), (3, .int (iI b)), (4, .int (iI c)), (5, .int (iI d))] → W P_ l e_ (gR 4 0 0) s M_ ([.ref (am 0), .int (iI j), .int (iI a), .int (iI b), .int (iI c), .int (iI d)] : List Value).toArray bl mt_ c_ s.heap [] 0 0 (MQ bl (gQi (mW am) (fun z H1 => ∃ M1, MP E am M1 H1 ∧ M1 0 0 = erP S j a b c d ∧ (erP S j a b c d = 0 → z = (phN4 b c d : Int) ∧ MR (gphs S j.toNat (phN4 b c d) (phF a b c d)) M1 ∧ mC M M1) ∧ (¬ erP S j a b c d = 0 → mQ M M1))) ([.ref (am 0), .int (iI j), .int (iI a), .int (iI b), .int (iI c), .int (iI d)] : List Value).toArray s 0 0 (mW am)) (F0 M_ 53 ls [.int (iI z), .int (iI 0), .int (iI d)])) := by
            intro z ls e_z hl
            subst e_z
            have hl : lv_has ls 8 [(0, .ref (am 0)), (1, .int (iI j)), (2, .int (iI a)), (3, .int (iI b)), (4, .int (iI c)), (5, .int (iI d))] := hl
            have h53 : 0 ≤ (if c = 0 then (0 : Int) else 15) ∧ (if c = 0 then (0 : Int) else 15) ≤ 15 := by split <;> omega
            refine g_pS X hk (As := [.int (iI d), .int (iI 0), .int (iI (if c = 0 then 0 else 15))]) (rest := []) (m_in l E d 0 (if c = 0 then 0 else 15) s.heap (by omega) (by omega) (by omega)) 3 (lw_S q691 q692 q48 q693) (by decide +kernel) ⟨⟨Nat.le_of_ble_eq_true rfl, Nat.le_of_ble_eq_true rfl⟩, Nat.le_of_ble_eq_true rfl, Nat.le_of_ble_eq_true rfl⟩ rfl rfl hl.1 (Nat.le_of_ble_eq_true rfl) dX3_setPhases_53 ?_
            have h56 := bZ_le (decide (0 ≤ d ∧ d ≤ (if c = 0 then 0 else 15)))
            refine g_if_eq X dX3_setPhases_56 (tgt := 63) (by decide) (by omega) (fun c56 => ?_) (fun c56 => ?_)
            · refine g_iconst X dX3_setPhases_63 ?_
              exact join_64.out 0 _ (by first | (rw [decide_eq_true ⟨k7, k17, k36, k56⟩]; rfl) | grind [bZ]) (lv_sub hl [0, 1, 2, 3, 4, 5] rfl)
            · have k56 : 0 ≤ d ∧ d ≤ (if c = 0 then 0 else 15) := by grind [bZ]
              refine g_iconst X dX3_setPhases_59 ?_
              refine g_goto X dX3_setPhases_60 (tgt := 64) (by decide) ?_
              exact join_64.out 1 _ (by first | (rw [decide_eq_true ⟨k7, k17, k36, k56⟩]; rfl) | grind [bZ]) (lv_sub hl [0, 1, 2, 3, 4, 5] rfl)
          refine g_iload X dX3_setPhases_42 hl 4 rfl ?_
          refine g_if_ne X dX3_setPhases_44 (tgt := 51) (by decide) (by omega) (fun c44 => ?_) (fun c44 => ?_)
          · refine g_bipush X dX3_setPhases_51 rfl ?_
            exact join_53.out 15 _ (by grind) (lv_sub hl [0, 1, 2, 3, 4, 5] rfl)
          · refine g_iconst X dX3_setPhases_47 ?_
            refine g_goto X dX3_setPhases_48 (tgt := 53) (by decide) ?_
            exact join_53.out 0 _ (by grind) (lv_sub hl [0, 1, 2, 3, 4, 5] rfl)
      refine g_iload_n X dX3_setPhases_23 rfl hl 3 rfl ?_
      refine g_if_ne X dX3_setPhases_24 (tgt := 31) (by decide) (by omega) (fun c24 => ?_) (fun c24 => ?_)
      · refine g_bipush X dX3_setPhases_31 rfl ?_
        exact join_33.out 15 _ (by grind) (lv_sub hl [0, 1, 2, 3, 4, 5] rfl)
      · refine g_iconst X dX3_setPhases_27 ?_
        refine g_goto X dX3_setPhases_28 (tgt := 33) (by decide) ?_
        exact join_33.out 0 _ (by grind) (lv_sub hl [0, 1, 2, 3, 4, 5] rfl)
