/-! a junction: what is read alone -/
set_option maxHeartbeats 4000000 in
theorem p_clearance (l : Launch) (E : EP) (ad : Nat → Nat → Nat) (S : GS) (H : Heap) (hP : GP E ad S H) (hI : gI S) (j : Nat) (hj : j < gN S) (a b : Nat) (ha : a < 4) (hb : b < 4) : gP l E yX2_clearance cX2_clearance 3 .int 0 H [.ref (ad 0 j), .int (iI ((a : Nat) : Int)), .int (iI ((b : Nat) : Int))] (gCf S j (4 * a + b)) := by
  refine g_met (plainFor_of_name (by decide)) (Nat.le_of_ble_eq_true rfl) (fun P_ e_ s M_ bl mt_ c_ ls X _ hk hh hl => ?_)
  subst hh
  have X : gX P_ s M_ mt_ c_ cX2_clearance 3 ([.ref (ad 0 j), .int (iI ((a : Nat) : Int)), .int (iI ((b : Nat) : Int))] : List Value).toArray RX2 (some .int) := X
  have hl : lv_has ls 3 [(0, .ref (ad 0 j)), (1, .int (iI ((a : Nat) : Int))), (2, .int (iI ((b : Nat) : Int)))] := hl
  refine g_aload_n X dX2_clearance_0 rfl hl 0 rfl ?_
  refine g_get X hk (v := .ref (ad 1 j)) in_X2 rfl (GP.J hP hj) 1 (by decide) q90 (rfl) dX2_clearance_1 ?_
  refine g_iconst X dX2_clearance_4 ?_
  refine g_iload_n X dX2_clearance_5 rfl hl 1 rfl ?_
  refine g_imul X dX2_clearance_6 ?_
  refine g_iload_n X dX2_clearance_7 rfl hl 2 rfl ?_
  refine g_iadd X dX2_clearance_8 ?_
  refine g_ialdv X hk (j := ((4 * a) + b)) (n := 16) (f := (gCf S j)) (v := ((gCf S j) ((4 * a) + b))) (GP.C hP hj) (by omega) (by omega) (rfl) dX2_clearance_9 ?_
  exact g_iretP X (rfl) dX2_clearance_10
set_option maxHeartbeats 4000000 in
theorem p_isPeaceful (l : Launch) (E : EP) (ad : Nat → Nat → Nat) (S : GS) (H : Heap) (hP : GP E ad S H) (hI : gI S) (j : Nat) (hj : j < gN S) (v : Int) (hv : -2147483648 ≤ v ∧ v ≤ 2147483647) : gP l E yX2_isPeaceful cX2_isPeaceful 6 .boolean 1 H [.ref (ad 0 j), .int (iI v)] (bZ (pcfK v (gCf S j) 16)) := by
  refine g_met (plainFor_of_name (by decide)) (Nat.le_of_ble_eq_true rfl) (fun P_ e_ s M_ bl mt_ c_ ls X _ hk hh hl => ?_)
  subst hh
  have X : gX P_ s M_ mt_ c_ cX2_isPeaceful 6 ([.ref (ad 0 j), .int (iI v)] : List Value).toArray RX2 (some .boolean) := X
  have hl : lv_has ls 6 [(0, .ref (ad 0 j)), (1, .int (iI v))] := hl
  refine g_iconst X dX2_isPeaceful_0 ?_
  refine g_istore_n (lv' := [(2, .int (iI 1)), (0, .ref (ad 0 j)), (1, .int (iI v))]) X dX2_isPeaceful_1 rfl hl (by decide) rfl (fun ls hl => ?_)
  refine g_iconst X dX2_isPeaceful_2 ?_
  refine g_istore_n (lv' := [(3, .int (iI 0)), (2, .int (iI 1)), (0, .ref (ad 0 j)), (1, .int (iI v))]) X dX2_isPeaceful_3 rfl hl (by decide) rfl (fun ls hl => ?_)
  have loop_4 : gHide (∀ (n_ : Nat) (k : Nat) (v3 : Int) (v2 : Int), 17 ≤ k + n_ → v3 = ((k : Nat) : Int) → v2 = (bZ (pcfK v (gCf S j) k)) → (k ≤ 16) → ∀ (ls : Array Slot), lv_has ls 6 [(3, .int (iI v3)), (2, .int (iI v2)), (0, .ref (ad 0 j)), (1, .int (iI v))] → W P_ l e_ (gR 1 0 0) s M_ ([.ref (ad 0 j), .int (iI v)] : List Value).toArray bl mt_ c_ s.heap [] 0 0 (MQ bl (QcRead (iI (bZ (pcfK v (gCf S j) 16)))) ([.ref (ad 0 j), .int (iI v)] : List Value).toArray s 0 0 (fun _ => False)) (F0 M_ 4 ls [])) := by
    intro n_
    induction n_ with
    | zero => intro k v3 v2 hb_ e_v3 e_v2 hkb ls hl; exact absurd hb_ (by omega)
    | succ n_ ih_4 =>
      replace ih_4 := gHide.mk ih_4
      intro k v3 v2 hb_ e_v3 e_v2 hkb ls hl
      subst e_v3
      subst e_v2
      have hl : lv_has ls 6 [(3, .int (iI ((k : Nat) : Int))), (2, .int (iI (bZ (pcfK v (gCf S j) k)))), (0, .ref (ad 0 j)), (1, .int (iI v))] := hl
      have hz := bZ_le (pcfK v (gCf S j) k)
      refine g_iload_n X dX2_isPeaceful_4 rfl hl 0 rfl ?_
      refine g_aload_n X dX2_isPeaceful_5 rfl hl 2 rfl ?_
      refine g_get X hk (v := .ref (ad 1 j)) in_X2 rfl (GP.J hP hj) 1 (by decide) q90 (rfl) dX2_isPeaceful_6 ?_
      refine g_alenI X hk (n := 16) (GP.C hP hj) dX2_isPeaceful_9 ?_
      refine g_icmp_ge X dX2_isPeaceful_10 (tgt := 74) (by decide) (by omega) (fun c10 => ?_) (fun c10 => ?_)
      · refine g_iload_n X dX2_isPeaceful_74 rfl hl 1 rfl ?_
        exact g_zretP X (by first | exact bZ_le _ | omega) (by rw [show k = 16 by omega]) dX2_isPeaceful_75
      · refine g_iload_n X dX2_isPeaceful_13 rfl hl 0 rfl ?_
        refine g_iconst X dX2_isPeaceful_14 ?_
        refine g_idivN X dX2_isPeaceful_15 (by omega) ?_
        refine g_istore (lv' := [(4, .int (iI (((k : Nat) : Int) / 4))), (3, .int (iI ((k : Nat) : Int))), (2, .int (iI (bZ (pcfK v (gCf S j) k)))), (0, .ref (ad 0 j)), (1, .int (iI v))]) X dX2_isPeaceful_16 hl (by decide) rfl (fun ls hl => ?_)
        refine g_iload_n X dX2_isPeaceful_18 rfl hl 1 rfl ?_
        refine g_iconst X dX2_isPeaceful_19 ?_
        refine g_iremN X dX2_isPeaceful_20 (by omega) ?_
        refine g_istore (lv' := [(5, .int (iI (((k : Nat) : Int) % 4))), (4, .int (iI (((k : Nat) : Int) / 4))), (3, .int (iI ((k : Nat) : Int))), (2, .int (iI (bZ (pcfK v (gCf S j) k)))), (0, .ref (ad 0 j)), (1, .int (iI v))]) X dX2_isPeaceful_21 hl (by decide) rfl (fun ls hl => ?_)
        have join_67 : gHide (∀ (z : Int) (ls : Array Slot), z = (bZ (pcfK v (gCf S j) (k + 1))) → lv_has ls 6 [(5, .int (iI (((k : Nat) : Int) % 4))), (4, .int (iI (((k : Nat) : Int) / 4))), (3, .int (iI ((k : Nat) : Int))), (2, .int (iI (bZ (pcfK v (gCf S j) k)))), (0, .ref (ad 0 j)), (1, .int (iI v))] → W P_ l e_ (gR 1 0 0) s M_ ([.ref (ad 0 j), .int (iI v)] : List Value).toArray bl mt_ c_ s.heap [] 0 0 (MQ bl (QcRead (iI (bZ (pcfK v (gCf S j) 16)))) ([.ref (ad 0 j), .int (iI v)] : List Value).toArray s 0 0 (fun _ => False)) (F0 M_ 67 ls [.int (iI z)])) := by
          intro z ls e_z hl
          subst e_z
          have hl : lv_has ls 6 [(5, .int (iI (((k : Nat) : Int) % 4))), (4, .int (iI (((k : Nat) : Int) / 4))), (3, .int (iI ((k : Nat) : Int))), (2, .int (iI (bZ (pcfK v (gCf S j) k)))), (0, .ref (ad 0 j)), (1, .int (iI v))] := hl
          refine g_istore_n (lv' := [(2, .int (iI (bZ (pcfK v (gCf S j) (k + 1))))), (5, .int (iI (((k : Nat) : Int) % 4))), (4, .int (iI (((k : Nat) : Int) / 4))), (3, .int (iI ((k : Nat) : Int))), (0, .ref (ad 0 j)), (1, .int (iI v))]) X dX2_isPeaceful_67 rfl hl (by decide) rfl (fun ls hl => ?_)
          refine g_iinc (lv' := [(3, .int (iI (((k : Nat) : Int) + 1))), (2, .int (iI (bZ (pcfK v (gCf S j) (k + 1))))), (5, .int (iI (((k : Nat) : Int) % 4))), (4, .int (iI (((k : Nat) : Int) / 4))), (0, .ref (ad 0 j)), (1, .int (iI v))]) X dX2_isPeaceful_68 hl (k := 3) rfl (by decide) rfl (fun ls hl => ?_)
          refine g_goto X dX2_isPeaceful_71 (tgt := 4) (by decide) ?_
          exact ih_4.out (k + 1) (((k : Nat) : Int) + 1) (bZ (pcfK v (gCf S j) (k + 1))) (by omega) (by omega) (rfl) (by omega) _ (lv_sub hl [0, 1, 4, 5] rfl)
        refine g_iload_n X dX2_isPeaceful_23 rfl hl 3 rfl ?_
        refine g_if_eq X dX2_isPeaceful_24 (tgt := 66) (by decide) (by omega) (fun c24 => ?_) (fun c24 => ?_)
        · refine g_iconst X dX2_isPeaceful_66 ?_
          exact join_67.out 0 _ (by grind [bZ, pcfK]) (lv_sub hl [0, 1, 2, 3, 4, 5] rfl)
        · refine g_iload X dX2_isPeaceful_27 hl 1 rfl ?_
          refine g_iload X dX2_isPeaceful_29 hl 0 rfl ?_
          refine g_icmp_eq X dX2_isPeaceful_31 (tgt := 62) (by decide) (by omega) (fun c31 => ?_) (fun c31 => ?_)
          · refine g_iconst X dX2_isPeaceful_62 ?_
            refine g_goto X dX2_isPeaceful_63 (tgt := 67) (by decide) ?_
            exact join_67.out 1 _ (by grind [bZ, pcfK]) (lv_sub hl [0, 1, 2, 3, 4, 5] rfl)
          · refine g_iload_n X dX2_isPeaceful_34 rfl hl 5 rfl ?_
            refine g_iload X dX2_isPeaceful_35 hl 1 rfl ?_
            refine g_pSN X hk (As := [.int (iI v), .int (iI (((k : Nat) : Int) / 4))]) (rest := []) (p_has l E v (((k : Nat) : Int) / 4) s.heap) 2 hk.ev.2.1 q46 q324 q325 (by decide +kernel) ⟨⟨Nat.le_of_ble_eq_true rfl, Nat.le_of_ble_eq_true rfl⟩, Nat.le_of_ble_eq_true rfl, Nat.le_of_ble_eq_true rfl⟩ rfl rfl hl.1 (Nat.le_of_ble_eq_true rfl) dX2_isPeaceful_37 ?_
            have h40 := bZ_le (hasB v (((k : Nat) : Int) / 4))
            refine g_if_eq X dX2_isPeaceful_40 (tgt := 62) (by decide) (by omega) (fun c40 => ?_) (fun c40 => ?_)
            · refine g_iconst X dX2_isPeaceful_62 ?_
              refine g_goto X dX2_isPeaceful_63 (tgt := 67) (by decide) ?_
              exact join_67.out 1 _ (by grind [bZ, pcfK]) (lv_sub hl [0, 1, 2, 3, 4, 5] rfl)
            · refine g_iload_n X dX2_isPeaceful_43 rfl hl 5 rfl ?_
              refine g_iload X dX2_isPeaceful_44 hl 0 rfl ?_
              refine g_pSN X hk (As := [.int (iI v), .int (iI (((k : Nat) : Int) % 4))]) (rest := []) (p_has l E v (((k : Nat) : Int) % 4) s.heap) 2 hk.ev.2.1 q46 q324 q325 (by decide +kernel) ⟨⟨Nat.le_of_ble_eq_true rfl, Nat.le_of_ble_eq_true rfl⟩, Nat.le_of_ble_eq_true rfl, Nat.le_of_ble_eq_true rfl⟩ rfl rfl hl.1 (Nat.le_of_ble_eq_true rfl) dX2_isPeaceful_46 ?_
              have h49 := bZ_le (hasB v (((k : Nat) : Int) % 4))
              refine g_if_eq X dX2_isPeaceful_49 (tgt := 62) (by decide) (by omega) (fun c49 => ?_) (fun c49 => ?_)
              · refine g_iconst X dX2_isPeaceful_62 ?_
                refine g_goto X dX2_isPeaceful_63 (tgt := 67) (by decide) ?_
                exact join_67.out 1 _ (by grind [bZ, pcfK]) (lv_sub hl [0, 1, 2, 3, 4, 5] rfl)
              · refine g_aload_n X dX2_isPeaceful_52 rfl hl 4 rfl ?_
                refine g_get X hk (v := .ref (ad 1 j)) in_X2 rfl (GP.J hP hj) 1 (by decide) q90 (rfl) dX2_isPeaceful_53 ?_
                refine g_iload_n X dX2_isPeaceful_56 rfl hl 2 rfl ?_
                refine g_ialdv X hk (j := k) (n := 16) (f := (gCf S j)) (v := ((gCf S j) k)) (GP.C hP hj) (rfl) (by omega) (rfl) dX2_isPeaceful_57 ?_
                refine g_iconst X dX2_isPeaceful_58 ?_
                have h59 := (hI.2.2 j hj).2.1 k (by omega)
                refine g_icmp_ne X dX2_isPeaceful_59 (tgt := 66) (by decide) (by omega) (fun c59 => ?_) (fun c59 => ?_)
                · refine g_iconst X dX2_isPeaceful_66 ?_
                  exact join_67.out 0 _ (by grind [bZ, pcfK]) (lv_sub hl [0, 1, 2, 3, 4, 5] rfl)
                · refine g_iconst X dX2_isPeaceful_62 ?_
                  refine g_goto X dX2_isPeaceful_63 (tgt := 67) (by decide) ?_
                  exact join_67.out 1 _ (by grind [bZ, pcfK]) (lv_sub hl [0, 1, 2, 3, 4, 5] rfl)
  exact loop_4.out 17 0 0 1 (by omega) (rfl) (rfl) (by omega) _ (lv_sub hl [0, 1, 2, 3] rfl)
set_option maxHeartbeats 4000000 in
theorem p_clearing (l : Launch) (E : EP) (ad : Nat → Nat → Nat) (S : GS) (H : Heap) (hP : GP E ad S H) (hI : gI S) (j : Nat) (hj : j < gN S) (p : Nat) (hp : p < gNp S j) : gP l E yX2_clearing cX2_clearing 5 .int 1 H [.ref (ad 0 j), .int (iI ((p : Nat) : Int))] (clr S j p) := by
  refine g_met (plainFor_of_name (by decide)) (Nat.le_of_ble_eq_true rfl) (fun P_ e_ s M_ bl mt_ c_ ls X _ hk hh hl => ?_)
  subst hh
  have X : gX P_ s M_ mt_ c_ cX2_clearing 5 ([.ref (ad 0 j), .int (iI ((p : Nat) : Int))] : List Value).toArray RX2 (some .int) := X
  have hl : lv_has ls 5 [(0, .ref (ad 0 j)), (1, .int (iI ((p : Nat) : Int)))] := hl
  have hnp := (hI.2.2 j hj).1
  refine g_aload_n X dX2_clearing_0 rfl hl 0 rfl ?_
  refine g_get X hk (v := .ref (ad 3 j)) in_X2 rfl (GP.J hP hj) 3 (by decide) q94 (rfl) dX2_clearing_1 ?_
  refine g_iload_n X dX2_clearing_4 rfl hl 1 rfl ?_
  refine g_iconst X dX2_clearing_5 ?_
  refine g_iadd X dX2_clearing_6 ?_
  refine g_aload_n X dX2_clearing_7 rfl hl 0 rfl ?_
  refine g_get X hk (v := .ref (ad 3 j)) in_X2 rfl (GP.J hP hj) 3 (by decide) q94 (rfl) dX2_clearing_8 ?_
  refine g_alenI X hk (n := (gNp S j)) (GP.P hP hj) dX2_clearing_11 ?_
  refine g_iremN X dX2_clearing_12 (by omega) ?_
  refine g_ialdv X hk (j := (p + 1) % gNp S j) (n := (gNp S j)) (f := (gPh S j)) (v := ((gPh S j) ((p + 1) % gNp S j))) (GP.P hP hj) (by push_cast; rfl) (⟨Nat.mod_lt _ (by omega), by omega⟩) (rfl) dX2_clearing_13 ?_
  refine g_istore_n (lv' := [(2, .int (iI ((gPh S j) ((p + 1) % gNp S j)))), (0, .ref (ad 0 j)), (1, .int (iI ((p : Nat) : Int)))]) X dX2_clearing_14 rfl hl (by decide) rfl (fun ls hl => ?_)
  refine g_iconst X dX2_clearing_15 ?_
  refine g_istore_n (lv' := [(3, .int (iI 0)), (2, .int (iI ((gPh S j) ((p + 1) % gNp S j)))), (0, .ref (ad 0 j)), (1, .int (iI ((p : Nat) : Int)))]) X dX2_clearing_16 rfl hl (by decide) rfl (fun ls hl => ?_)
  refine g_iconst X dX2_clearing_17 ?_
  refine g_istore (lv' := [(4, .int (iI 0)), (3, .int (iI 0)), (2, .int (iI ((gPh S j) ((p + 1) % gNp S j)))), (0, .ref (ad 0 j)), (1, .int (iI ((p : Nat) : Int)))]) X dX2_clearing_18 hl (by decide) rfl (fun ls hl => ?_)
  have loop_20 : gHide (∀ (n_ : Nat) (k : Nat) (v4 : Int) (v3 : Int), 17 ≤ k + n_ → v4 = ((k : Nat) : Int) → v3 = (clrK (gPh S j p) (gPh S j ((p + 1) % gNp S j)) (gCf S j) k) → (k ≤ 16) → ∀ (ls : Array Slot), lv_has ls 5 [(4, .int (iI v4)), (3, .int (iI v3)), (2, .int (iI ((gPh S j) ((p + 1) % gNp S j)))), (0, .ref (ad 0 j)), (1, .int (iI ((p : Nat) : Int)))] → W P_ l e_ (gR 1 0 0) s M_ ([.ref (ad 0 j), .int (iI ((p : Nat) : Int))] : List Value).toArray bl mt_ c_ s.heap [] 0 0 (MQ bl (QcRead (iI (clr S j p))) ([.ref (ad 0 j), .int (iI ((p : Nat) : Int))] : List Value).toArray s 0 0 (fun _ => False)) (F0 M_ 20 ls [])) := by
    intro n_
    induction n_ with
    | zero => intro k v4 v3 hb_ e_v4 e_v3 hkb ls hl; exact absurd hb_ (by omega)
    | succ n_ ih_20 =>
      replace ih_20 := gHide.mk ih_20
      intro k v4 v3 hb_ e_v4 e_v3 hkb ls hl
      subst e_v4
      subst e_v3
      have hl : lv_has ls 5 [(4, .int (iI ((k : Nat) : Int))), (3, .int (iI (clrK (gPh S j p) (gPh S j ((p + 1) % gNp S j)) (gCf S j) k))), (2, .int (iI ((gPh S j) ((p + 1) % gNp S j)))), (0, .ref (ad 0 j)), (1, .int (iI ((p : Nat) : Int)))] := hl
      have hz := clrK_b (s := gPh S j p) (t := gPh S j ((p + 1) % gNp S j)) (hI.2.2 j hj).2.1 k hkb
      refine g_iload X dX2_clearing_20 hl 0 rfl ?_
      refine g_aload_n X dX2_clearing_22 rfl hl 3 rfl ?_
      refine g_get X hk (v := .ref (ad 1 j)) in_X2 rfl (GP.J hP hj) 1 (by decide) q90 (rfl) dX2_clearing_23 ?_
      refine g_alenI X hk (n := 16) (GP.C hP hj) dX2_clearing_26 ?_
      refine g_icmp_ge X dX2_clearing_27 (tgt := 75) (by decide) (by omega) (fun c27 => ?_) (fun c27 => ?_)
      · refine g_iload_n X dX2_clearing_75 rfl hl 1 rfl ?_
        exact g_iretP X (by rw [show k = 16 by omega]; rfl) dX2_clearing_76
      · refine g_aload_n X dX2_clearing_30 rfl hl 3 rfl ?_
        refine g_get X hk (v := .ref (ad 3 j)) in_X2 rfl (GP.J hP hj) 3 (by decide) q94 (rfl) dX2_clearing_31 ?_
        refine g_iload_n X dX2_clearing_34 rfl hl 4 rfl ?_
        refine g_ialdv X hk (j := p) (n := (gNp S j)) (f := (gPh S j)) (v := ((gPh S j) p)) (GP.P hP hj) (rfl) (by omega) (rfl) dX2_clearing_35 ?_
        refine g_iload X dX2_clearing_36 hl 0 rfl ?_
        refine g_iconst X dX2_clearing_38 ?_
        refine g_idivN X dX2_clearing_39 (by omega) ?_
        refine g_pSN X hk (As := [.int (iI ((gPh S j) p)), .int (iI (((k : Nat) : Int) / 4))]) (rest := []) (p_has l E ((gPh S j) p) (((k : Nat) : Int) / 4) s.heap) 2 hk.ev.2.1 q46 q324 q325 (by decide +kernel) ⟨⟨Nat.le_of_ble_eq_true rfl, Nat.le_of_ble_eq_true rfl⟩, Nat.le_of_ble_eq_true rfl, Nat.le_of_ble_eq_true rfl⟩ rfl rfl hl.1 (Nat.le_of_ble_eq_true rfl) dX2_clearing_40 ?_
        have h43 := bZ_le (hasB (gPh S j p) (((k : Nat) : Int) / 4))
        refine g_if_eq X dX2_clearing_43 (tgt := 69) (by decide) (by omega) (fun c43 => ?_) (fun c43 => ?_)
        · refine g_iinc (lv' := [(4, .int (iI (((k : Nat) : Int) + 1))), (3, .int (iI (clrK (gPh S j p) (gPh S j ((p + 1) % gNp S j)) (gCf S j) k))), (2, .int (iI ((gPh S j) ((p + 1) % gNp S j)))), (0, .ref (ad 0 j)), (1, .int (iI ((p : Nat) : Int)))]) X dX2_clearing_69 hl (k := 0) rfl (by decide) rfl (fun ls hl => ?_)
          refine g_goto X dX2_clearing_72 (tgt := 20) (by decide) ?_
          exact ih_20.out (k + 1) (((k : Nat) : Int) + 1) (clrK (gPh S j p) (gPh S j ((p + 1) % gNp S j)) (gCf S j) k) (by omega) (by omega) (by grind [clrK, bZ]) (by omega) _ (lv_sub hl [0, 1, 2, 3, 4] rfl)
        · refine g_iload_n X dX2_clearing_46 rfl hl 2 rfl ?_
          refine g_iload X dX2_clearing_47 hl 0 rfl ?_
          refine g_iconst X dX2_clearing_49 ?_
          refine g_iremN X dX2_clearing_50 (by omega) ?_
          refine g_pSN X hk (As := [.int (iI ((gPh S j) ((p + 1) % gNp S j))), .int (iI (((k : Nat) : Int) % 4))]) (rest := []) (p_has l E ((gPh S j) ((p + 1) % gNp S j)) (((k : Nat) : Int) % 4) s.heap) 2 hk.ev.2.1 q46 q324 q325 (by decide +kernel) ⟨⟨Nat.le_of_ble_eq_true rfl, Nat.le_of_ble_eq_true rfl⟩, Nat.le_of_ble_eq_true rfl, Nat.le_of_ble_eq_true rfl⟩ rfl rfl hl.1 (Nat.le_of_ble_eq_true rfl) dX2_clearing_51 ?_
          have h54 := bZ_le (hasB (gPh S j ((p + 1) % gNp S j)) (((k : Nat) : Int) % 4))
          refine g_if_eq X dX2_clearing_54 (tgt := 69) (by decide) (by omega) (fun c54 => ?_) (fun c54 => ?_)
          · refine g_iinc (lv' := [(4, .int (iI (((k : Nat) : Int) + 1))), (3, .int (iI (clrK (gPh S j p) (gPh S j ((p + 1) % gNp S j)) (gCf S j) k))), (2, .int (iI ((gPh S j) ((p + 1) % gNp S j)))), (0, .ref (ad 0 j)), (1, .int (iI ((p : Nat) : Int)))]) X dX2_clearing_69 hl (k := 0) rfl (by decide) rfl (fun ls hl => ?_)
            refine g_goto X dX2_clearing_72 (tgt := 20) (by decide) ?_
            exact ih_20.out (k + 1) (((k : Nat) : Int) + 1) (clrK (gPh S j p) (gPh S j ((p + 1) % gNp S j)) (gCf S j) k) (by omega) (by omega) (by grind [clrK, bZ]) (by omega) _ (lv_sub hl [0, 1, 2, 3, 4] rfl)
          · refine g_iload_n X dX2_clearing_57 rfl hl 1 rfl ?_
            refine g_aload_n X dX2_clearing_58 rfl hl 3 rfl ?_
            refine g_get X hk (v := .ref (ad 1 j)) in_X2 rfl (GP.J hP hj) 1 (by decide) q90 (rfl) dX2_clearing_59 ?_
            refine g_iload X dX2_clearing_62 hl 0 rfl ?_
            refine g_ialdv X hk (j := k) (n := 16) (f := (gCf S j)) (v := ((gCf S j) k)) (GP.C hP hj) (rfl) (by omega) (rfl) dX2_clearing_64 ?_
            have h65 := (hI.2.2 j hj).2.1 k (by omega)
            refine g_pS X hk (As := [.int (iI (clrK (gPh S j p) (gPh S j ((p + 1) % gNp S j)) (gCf S j) k)), .int (iI ((gCf S j) k))]) (rest := []) (p_max l E (clrK (gPh S j p) (gPh S j ((p + 1) % gNp S j)) (gCf S j) k) ((gCf S j) k) s.heap (by omega) (by omega)) 2 (lw_S q408 q409 q57 q410) (by decide +kernel) ⟨⟨Nat.le_of_ble_eq_true rfl, Nat.le_of_ble_eq_true rfl⟩, Nat.le_of_ble_eq_true rfl, Nat.le_of_ble_eq_true rfl⟩ rfl rfl hl.1 (Nat.le_of_ble_eq_true rfl) dX2_clearing_65 ?_
            refine g_istore_n (lv' := [(3, .int (iI (max (clrK (gPh S j p) (gPh S j ((p + 1) % gNp S j)) (gCf S j) k) ((gCf S j) k)))), (4, .int (iI ((k : Nat) : Int))), (2, .int (iI ((gPh S j) ((p + 1) % gNp S j)))), (0, .ref (ad 0 j)), (1, .int (iI ((p : Nat) : Int)))]) X dX2_clearing_68 rfl hl (by decide) rfl (fun ls hl => ?_)
            refine g_iinc (lv' := [(4, .int (iI (((k : Nat) : Int) + 1))), (3, .int (iI (max (clrK (gPh S j p) (gPh S j ((p + 1) % gNp S j)) (gCf S j) k) ((gCf S j) k)))), (2, .int (iI ((gPh S j) ((p + 1) % gNp S j)))), (0, .ref (ad 0 j)), (1, .int (iI ((p : Nat) : Int)))]) X dX2_clearing_69 hl (k := 1) rfl (by decide) rfl (fun ls hl => ?_)
            refine g_goto X dX2_clearing_72 (tgt := 20) (by decide) ?_
            exact ih_20.out (k + 1) (((k : Nat) : Int) + 1) (max (clrK (gPh S j p) (gPh S j ((p + 1) % gNp S j)) (gCf S j) k) ((gCf S j) k)) (by omega) (by omega) (by grind [clrK, bZ]) (by omega) _ (lv_sub hl [0, 1, 2, 3, 4] rfl)
  exact loop_20.out 17 0 0 0 (by omega) (rfl) (rfl) (by omega) _ (lv_sub hl [0, 1, 2, 3, 4] rfl)
set_option maxHeartbeats 4000000 in
theorem p_leastGreen (l : Launch) (E : EP) (ad : Nat → Nat → Nat) (S : GS) (H : Heap) (hP : GP E ad S H) (hI : gI S) (j : Nat) (hj : j < gN S) (p : Nat) (hp : p < gNp S j) : gP l E yX2_leastGreen cX2_leastGreen 2 .int 1 H [.ref (ad 0 j), .int (iI ((p : Nat) : Int))] (lst S j p) := by
  refine g_met (plainFor_of_name (by decide)) (Nat.le_of_ble_eq_true rfl) (fun P_ e_ s M_ bl mt_ c_ ls X _ hk hh hl => ?_)
  subst hh
  have X : gX P_ s M_ mt_ c_ cX2_leastGreen 2 ([.ref (ad 0 j), .int (iI ((p : Nat) : Int))] : List Value).toArray RX2 (some .int) := X
  have hl : lv_has ls 2 [(0, .ref (ad 0 j)), (1, .int (iI ((p : Nat) : Int)))] := hl
  have hnp := (hI.2.2 j hj).1
  refine g_aload_n X dX2_leastGreen_0 rfl hl 0 rfl ?_
  refine g_get X hk (v := .ref (ad 3 j)) in_X2 rfl (GP.J hP hj) 3 (by decide) q94 (rfl) dX2_leastGreen_1 ?_
  refine g_iload_n X dX2_leastGreen_4 rfl hl 1 rfl ?_
  refine g_ialdv X hk (j := p) (n := (gNp S j)) (f := (gPh S j)) (v := ((gPh S j) p)) (GP.P hP hj) (rfl) (by omega) (rfl) dX2_leastGreen_5 ?_
  refine g_iconst X dX2_leastGreen_6 ?_
  refine g_pSN X hk (As := [.int (iI ((gPh S j) p)), .int (iI 3)]) (rest := []) (p_has l E ((gPh S j) p) 3 s.heap) 2 hk.ev.2.1 q46 q324 q325 (by decide +kernel) ⟨⟨Nat.le_of_ble_eq_true rfl, Nat.le_of_ble_eq_true rfl⟩, Nat.le_of_ble_eq_true rfl, Nat.le_of_ble_eq_true rfl⟩ rfl rfl hl.1 (Nat.le_of_ble_eq_true rfl) dX2_leastGreen_7 ?_
  have h10 := bZ_le (hasB (gPh S j p) 3)
  refine g_if_eq X dX2_leastGreen_10 (tgt := 18) (by decide) (by omega) (fun c10 => ?_) (fun c10 => ?_)
  · refine g_iconst X dX2_leastGreen_18 ?_
    exact g_iretP X (by unfold lst; grind [bZ]) dX2_leastGreen_19
  · refine g_bipush X dX2_leastGreen_13 rfl ?_
    refine g_goto X dX2_leastGreen_15 (tgt := 19) (by decide) ?_
    exact g_iretP X (by unfold lst; grind [bZ]) dX2_leastGreen_19
set_option maxHeartbeats 4000000 in
theorem p_left (l : Launch) (E : EP) (ad : Nat → Nat → Nat) (S : GS) (H : Heap) (hP : GP E ad S H) (hI : gI S) (j : Nat) (hj : j < gN S) : gP l E yX2_left cX2_left 3 .int 2 H [.ref (ad 0 j)] (lft S j) := by
  refine g_met (plainFor_of_name (by decide)) (Nat.le_of_ble_eq_true rfl) (fun P_ e_ s M_ bl mt_ c_ ls X _ hk hh hl => ?_)
  subst hh
  have X : gX P_ s M_ mt_ c_ cX2_left 3 ([.ref (ad 0 j)] : List Value).toArray RX2 (some .int) := X
  have hl : lv_has ls 3 [(0, .ref (ad 0 j))] := hl
  have hnp := (hI.2.2 j hj).1
  refine g_aload_n X dX2_left_0 rfl hl 0 rfl ?_
  refine g_get X hk (v := .int (iI (gCyc S))) in_X2 rfl (GP.J hP hj) 0 (by decide) q89 (rfl) dX2_left_1 ?_
  refine g_istore_n (lv' := [(1, .int (iI (gCyc S))), (0, .ref (ad 0 j))]) X dX2_left_4 rfl hl (by decide) rfl (fun ls hl => ?_)
  refine g_iconst X dX2_left_5 ?_
  refine g_istore_n (lv' := [(2, .int (iI 0)), (1, .int (iI (gCyc S))), (0, .ref (ad 0 j))]) X dX2_left_6 rfl hl (by decide) rfl (fun ls hl => ?_)
  have loop_7 : gHide (∀ (n_ : Nat) (k : Nat) (v2 : Int) (v1 : Int), gNp S j + 1 ≤ k + n_ → v2 = ((k : Nat) : Int) → v1 = (lftK S j k) → (k ≤ gNp S j) → ∀ (ls : Array Slot), lv_has ls 3 [(2, .int (iI v2)), (1, .int (iI v1)), (0, .ref (ad 0 j))] → W P_ l e_ (gR 2 0 0) s M_ ([.ref (ad 0 j)] : List Value).toArray bl mt_ c_ s.heap [] 0 0 (MQ bl (QcRead (iI (lft S j))) ([.ref (ad 0 j)] : List Value).toArray s 0 0 (fun _ => False)) (F0 M_ 7 ls [])) := by
    intro n_
    induction n_ with
    | zero => intro k v2 v1 hb_ e_v2 e_v1 hkb ls hl; exact absurd hb_ (by omega)
    | succ n_ ih_7 =>
      replace ih_7 := gHide.mk ih_7
      intro k v2 v1 hb_ e_v2 e_v1 hkb ls hl
      subst e_v2
      subst e_v1
      have hl : lv_has ls 3 [(2, .int (iI ((k : Nat) : Int))), (1, .int (iI (lftK S j k))), (0, .ref (ad 0 j))] := hl
      refine g_iload_n X dX2_left_7 rfl hl 0 rfl ?_
      refine g_aload_n X dX2_left_8 rfl hl 2 rfl ?_
      refine g_get X hk (v := .ref (ad 3 j)) in_X2 rfl (GP.J hP hj) 3 (by decide) q94 (rfl) dX2_left_9 ?_
      refine g_alenI X hk (n := (gNp S j)) (GP.P hP hj) dX2_left_12 ?_
      refine g_icmp_ge X dX2_left_13 (tgt := 36) (by decide) (by omega) (fun c13 => ?_) (fun c13 => ?_)
      · refine g_iload_n X dX2_left_36 rfl hl 1 rfl ?_
        exact g_iretP X (by rw [show k = gNp S j by omega]; rfl) dX2_left_37
      · refine g_iload_n X dX2_left_16 rfl hl 1 rfl ?_
        refine g_aload_n X dX2_left_17 rfl hl 2 rfl ?_
        refine g_iload_n X dX2_left_18 rfl hl 0 rfl ?_
        refine g_pV X hk (As := [.int (iI ((k : Nat) : Int))]) (rest := [.int (iI (lftK S j k))]) rfl (GP.J hP hj) (p_leastGreen l E ad S s.heap hP hI j hj k (by omega)) 1 (lw_V q400 q401 q402 q47 q403) (by decide +kernel) ⟨⟨Nat.le_of_ble_eq_true rfl, Nat.le_of_ble_eq_true rfl⟩, Nat.le_of_ble_eq_true rfl, Nat.le_of_ble_eq_true rfl⟩ rfl rfl hl.1 (Nat.le_of_ble_eq_true rfl) dX2_left_19 ?_
        refine g_aload_n X dX2_left_22 rfl hl 2 rfl ?_
        refine g_iload_n X dX2_left_23 rfl hl 0 rfl ?_
        refine g_pV X hk (As := [.int (iI ((k : Nat) : Int))]) (rest := [.int (iI (lst S j k)), .int (iI (lftK S j k))]) rfl (GP.J hP hj) (p_clearing l E ad S s.heap hP hI j hj k (by omega)) 1 (lw_V q404 q405 q406 q47 q407) (by decide +kernel) ⟨⟨Nat.le_of_ble_eq_true rfl, Nat.le_of_ble_eq_true rfl⟩, Nat.le_of_ble_eq_true rfl, Nat.le_of_ble_eq_true rfl⟩ rfl rfl hl.1 (Nat.le_of_ble_eq_true rfl) dX2_left_24 ?_
        refine g_iadd X dX2_left_27 ?_
        refine g_isub X dX2_left_28 ?_
        refine g_istore_n (lv' := [(1, .int (iI ((lftK S j k) - ((lst S j k) + (clr S j k))))), (2, .int (iI ((k : Nat) : Int))), (0, .ref (ad 0 j))]) X dX2_left_29 rfl hl (by decide) rfl (fun ls hl => ?_)
        refine g_iinc (lv' := [(2, .int (iI (((k : Nat) : Int) + 1))), (1, .int (iI ((lftK S j k) - ((lst S j k) + (clr S j k))))), (0, .ref (ad 0 j))]) X dX2_left_30 hl (k := 1) rfl (by decide) rfl (fun ls hl => ?_)
        refine g_goto X dX2_left_33 (tgt := 7) (by decide) ?_
        exact ih_7.out (k + 1) (((k : Nat) : Int) + 1) ((lftK S j k) - ((lst S j k) + (clr S j k))) (by omega) (by omega) (rfl) (by omega) _ (lv_sub hl [0, 1, 2] rfl)
  exact loop_7.out (gNp S j + 1) 0 0 (gCyc S) (by omega) (rfl) (rfl) (by omega) _ (lv_sub hl [0, 1, 2] rfl)
set_option maxHeartbeats 4000000 in
theorem p_weight (l : Launch) (E : EP) (ad : Nat → Nat → Nat) (S : GS) (H : Heap) (hP : GP E ad S H) (hI : gI S) (j : Nat) (hj : j < gN S) (p : Nat) (hp : p < gNp S j) : gP l E yX2_weight cX2_weight 4 .int 1 H [.ref (ad 0 j), .int (iI ((p : Nat) : Int))] (wgt S j p) := by
  refine g_met (plainFor_of_name (by decide)) (Nat.le_of_ble_eq_true rfl) (fun P_ e_ s M_ bl mt_ c_ ls X _ hk hh hl => ?_)
  subst hh
  have X : gX P_ s M_ mt_ c_ cX2_weight 4 ([.ref (ad 0 j), .int (iI ((p : Nat) : Int))] : List Value).toArray RX2 (some .int) := X
  have hl : lv_has ls 4 [(0, .ref (ad 0 j)), (1, .int (iI ((p : Nat) : Int)))] := hl
  have hnp := (hI.2.2 j hj).1
  refine g_iconst X dX2_weight_0 ?_
  refine g_istore_n (lv' := [(2, .int (iI 0)), (0, .ref (ad 0 j)), (1, .int (iI ((p : Nat) : Int)))]) X dX2_weight_1 rfl hl (by decide) rfl (fun ls hl => ?_)
  refine g_iconst X dX2_weight_2 ?_
  refine g_istore_n (lv' := [(3, .int (iI 0)), (2, .int (iI 0)), (0, .ref (ad 0 j)), (1, .int (iI ((p : Nat) : Int)))]) X dX2_weight_3 rfl hl (by decide) rfl (fun ls hl => ?_)
  have loop_4 : gHide (∀ (n_ : Nat) (k : Nat) (v3 : Int) (v2 : Int), 5 ≤ k + n_ → v3 = ((k : Nat) : Int) → v2 = (wgtK (gPh S j p) (gFl S j) k) → (k ≤ 4) → ∀ (ls : Array Slot), lv_has ls 4 [(3, .int (iI v3)), (2, .int (iI v2)), (0, .ref (ad 0 j)), (1, .int (iI ((p : Nat) : Int)))] → W P_ l e_ (gR 1 0 0) s M_ ([.ref (ad 0 j), .int (iI ((p : Nat) : Int))] : List Value).toArray bl mt_ c_ s.heap [] 0 0 (MQ bl (QcRead (iI (wgt S j p))) ([.ref (ad 0 j), .int (iI ((p : Nat) : Int))] : List Value).toArray s 0 0 (fun _ => False)) (F0 M_ 4 ls [])) := by
    intro n_
    induction n_ with
    | zero => intro k v3 v2 hb_ e_v3 e_v2 hkb ls hl; exact absurd hb_ (by omega)
    | succ n_ ih_4 =>
      replace ih_4 := gHide.mk ih_4
      intro k v3 v2 hb_ e_v3 e_v2 hkb ls hl
      subst e_v3
      subst e_v2
      have hl : lv_has ls 4 [(3, .int (iI ((k : Nat) : Int))), (2, .int (iI (wgtK (gPh S j p) (gFl S j) k))), (0, .ref (ad 0 j)), (1, .int (iI ((p : Nat) : Int)))] := hl
      have hz := wgtK_b (s := gPh S j p) (hI.2.2 j hj).2.2.2.1 k hkb
      refine g_iload_n X dX2_weight_4 rfl hl 0 rfl ?_
      refine g_iconst X dX2_weight_5 ?_
      refine g_icmp_ge X dX2_weight_6 (tgt := 43) (by decide) (by omega) (fun c6 => ?_) (fun c6 => ?_)
      · refine g_iload_n X dX2_weight_43 rfl hl 1 rfl ?_
        exact g_iretP X (by rw [show k = 4 by omega]; rfl) dX2_weight_44
      · refine g_aload_n X dX2_weight_9 rfl hl 2 rfl ?_
        refine g_get X hk (v := .ref (ad 3 j)) in_X2 rfl (GP.J hP hj) 3 (by decide) q94 (rfl) dX2_weight_10 ?_
        refine g_iload_n X dX2_weight_13 rfl hl 3 rfl ?_
        refine g_ialdv X hk (j := p) (n := (gNp S j)) (f := (gPh S j)) (v := ((gPh S j) p)) (GP.P hP hj) (rfl) (by omega) (rfl) dX2_weight_14 ?_
        refine g_iload_n X dX2_weight_15 rfl hl 0 rfl ?_
        refine g_pSN X hk (As := [.int (iI ((gPh S j) p)), .int (iI ((k : Nat) : Int))]) (rest := []) (p_has l E ((gPh S j) p) ((k : Nat) : Int) s.heap) 2 hk.ev.2.1 q46 q324 q325 (by decide +kernel) ⟨⟨Nat.le_of_ble_eq_true rfl, Nat.le_of_ble_eq_true rfl⟩, Nat.le_of_ble_eq_true rfl, Nat.le_of_ble_eq_true rfl⟩ rfl rfl hl.1 (Nat.le_of_ble_eq_true rfl) dX2_weight_16 ?_
        have h19 := bZ_le (hasB (gPh S j p) ((k : Nat) : Int))
        refine g_if_eq X dX2_weight_19 (tgt := 35) (by decide) (by omega) (fun c19 => ?_) (fun c19 => ?_)
        · refine g_iload_n X dX2_weight_35 rfl hl 1 rfl ?_
          refine g_istore_n (lv' := [(2, .int (iI (wgtK (gPh S j p) (gFl S j) k))), (3, .int (iI ((k : Nat) : Int))), (0, .ref (ad 0 j)), (1, .int (iI ((p : Nat) : Int)))]) X dX2_weight_36 rfl hl (by decide) rfl (fun ls hl => ?_)
          refine g_iinc (lv' := [(3, .int (iI (((k : Nat) : Int) + 1))), (2, .int (iI (wgtK (gPh S j p) (gFl S j) k))), (0, .ref (ad 0 j)), (1, .int (iI ((p : Nat) : Int)))]) X dX2_weight_37 hl (k := 1) rfl (by decide) rfl (fun ls hl => ?_)
          refine g_goto X dX2_weight_40 (tgt := 4) (by decide) ?_
          exact ih_4.out (k + 1) (((k : Nat) : Int) + 1) (wgtK (gPh S j p) (gFl S j) k) (by omega) (by omega) (by grind [wgtK, bZ]) (by omega) _ (lv_sub hl [0, 1, 2, 3] rfl)
        · refine g_iload_n X dX2_weight_22 rfl hl 1 rfl ?_
          refine g_aload_n X dX2_weight_23 rfl hl 2 rfl ?_
          refine g_get X hk (v := .ref (ad 2 j)) in_X2 rfl (GP.J hP hj) 2 (by decide) q92 (rfl) dX2_weight_24 ?_
          refine g_iload_n X dX2_weight_27 rfl hl 0 rfl ?_
          refine g_ialdv X hk (j := k) (n := 4) (f := (gFl S j)) (v := ((gFl S j) k)) (GP.F hP hj) (rfl) (by omega) (rfl) dX2_weight_28 ?_
          have h29 := (hI.2.2 j hj).2.2.2.1 k (by omega)
          refine g_pS X hk (As := [.int (iI (wgtK (gPh S j p) (gFl S j) k)), .int (iI ((gFl S j) k))]) (rest := []) (p_max l E (wgtK (gPh S j p) (gFl S j) k) ((gFl S j) k) s.heap (by omega) (by omega)) 2 (lw_S q408 q409 q57 q410) (by decide +kernel) ⟨⟨Nat.le_of_ble_eq_true rfl, Nat.le_of_ble_eq_true rfl⟩, Nat.le_of_ble_eq_true rfl, Nat.le_of_ble_eq_true rfl⟩ rfl rfl hl.1 (Nat.le_of_ble_eq_true rfl) dX2_weight_29 ?_
          refine g_goto X dX2_weight_32 (tgt := 36) (by decide) ?_
          refine g_istore_n (lv' := [(2, .int (iI (max (wgtK (gPh S j p) (gFl S j) k) ((gFl S j) k)))), (3, .int (iI ((k : Nat) : Int))), (0, .ref (ad 0 j)), (1, .int (iI ((p : Nat) : Int)))]) X dX2_weight_36 rfl hl (by decide) rfl (fun ls hl => ?_)
          refine g_iinc (lv' := [(3, .int (iI (((k : Nat) : Int) + 1))), (2, .int (iI (max (wgtK (gPh S j p) (gFl S j) k) ((gFl S j) k)))), (0, .ref (ad 0 j)), (1, .int (iI ((p : Nat) : Int)))]) X dX2_weight_37 hl (k := 1) rfl (by decide) rfl (fun ls hl => ?_)
          refine g_goto X dX2_weight_40 (tgt := 4) (by decide) ?_
          exact ih_4.out (k + 1) (((k : Nat) : Int) + 1) (max (wgtK (gPh S j p) (gFl S j) k) ((gFl S j) k)) (by omega) (by omega) (by grind [wgtK, bZ]) (by omega) _ (lv_sub hl [0, 1, 2, 3] rfl)
  exact loop_4.out 5 0 0 0 (by omega) (rfl) (rfl) (by omega) _ (lv_sub hl [0, 1, 2, 3] rfl)
set_option maxHeartbeats 4000000 in
theorem p_placeIn (l : Launch) (E : EP) (ad : Nat → Nat → Nat) (S : GS) (H : Heap) (hP : GP E ad S H) (hI : gI S) (j : Nat) (hj : j < gN S) (t : Int) (ht : -1000000 ≤ t ∧ t ≤ 1000000) : gP l E yX2_placeIn cX2_placeIn 2 .int 1 H [.ref (ad 0 j), .int (iI t)] ((t - gOff S j) % gCyc S) := by
  refine g_met (plainFor_of_name (by decide)) (Nat.le_of_ble_eq_true rfl) (fun P_ e_ s M_ bl mt_ c_ ls X _ hk hh hl => ?_)
  subst hh
  have X : gX P_ s M_ mt_ c_ cX2_placeIn 2 ([.ref (ad 0 j), .int (iI t)] : List Value).toArray RX2 (some .int) := X
  have hl : lv_has ls 2 [(0, .ref (ad 0 j)), (1, .int (iI t))] := hl
  have hc := hI.2.1
  have ho := (hI.2.2 j hj).2.2.2.2.1
  refine g_iload_n X dX2_placeIn_0 rfl hl 1 rfl ?_
  refine g_aload_n X dX2_placeIn_1 rfl hl 0 rfl ?_
  refine g_get X hk (v := .int (iI (gOff S j))) in_X2 rfl (GP.J hP hj) 4 (by decide) q96 (rfl) dX2_placeIn_2 ?_
  refine g_isub X dX2_placeIn_5 ?_
  refine g_aload_n X dX2_placeIn_6 rfl hl 0 rfl ?_
  refine g_get X hk (v := .int (iI (gCyc S))) in_X2 rfl (GP.J hP hj) 0 (by decide) q89 (rfl) dX2_placeIn_7 ?_
  refine g_pS X hk (As := [.int (iI (t - (gOff S j))), .int (iI (gCyc S))]) (rest := []) (p_floorMod l E (t - (gOff S j)) (gCyc S) s.heap (by omega) (by omega)) 2 (lw_S q446 q447 q57 q448) (by decide +kernel) ⟨⟨Nat.le_of_ble_eq_true rfl, Nat.le_of_ble_eq_true rfl⟩, Nat.le_of_ble_eq_true rfl, Nat.le_of_ble_eq_true rfl⟩ rfl rfl hl.1 (Nat.le_of_ble_eq_true rfl) dX2_placeIn_10 ?_
  exact g_iretP X (rfl) dX2_placeIn_13
set_option maxHeartbeats 4000000 in
theorem p_phaseAt (l : Launch) (E : EP) (ad : Nat → Nat → Nat) (S : GS) (H : Heap) (hP : GP E ad S H) (hI : gI S) (j : Nat) (hj : j < gN S) (t : Int) (ht : 0 ≤ t ∧ t ≤ 1000000) (q : Nat) (g : Nat → Int) (hq : ce E q (aI E (gNp S j) g) H) (hg : ∀ i, i < gNp S j → 0 ≤ g i ∧ g i ≤ 1000) : gP l E yX2_phaseAt cX2_phaseAt 5 .int 2 H [.ref (ad 0 j), .int (iI t), .ref q] (phA g (clr S j) (gNp S j) 0 t) := by
  refine g_met (plainFor_of_name (by decide)) (Nat.le_of_ble_eq_true rfl) (fun P_ e_ s M_ bl mt_ c_ ls X _ hk hh hl => ?_)
  subst hh
  have X : gX P_ s M_ mt_ c_ cX2_phaseAt 5 ([.ref (ad 0 j), .int (iI t), .ref q] : List Value).toArray RX2 (some .int) := X
  have hl : lv_has ls 5 [(0, .ref (ad 0 j)), (1, .int (iI t)), (2, .ref q)] := hl
  have hnp := (hI.2.2 j hj).1
  refine g_iconst X dX2_phaseAt_0 ?_
  refine g_istore_n (lv' := [(3, .int (iI 0)), (0, .ref (ad 0 j)), (1, .int (iI t)), (2, .ref q)]) X dX2_phaseAt_1 rfl hl (by decide) rfl (fun ls hl => ?_)
  refine g_iconst X dX2_phaseAt_2 ?_
  refine g_istore (lv' := [(4, .int (iI 0)), (3, .int (iI 0)), (0, .ref (ad 0 j)), (1, .int (iI t)), (2, .ref q)]) X dX2_phaseAt_3 hl (by decide) rfl (fun ls hl => ?_)
  have loop_5 : gHide (∀ (n_ : Nat) (k : Nat) (v4 : Int) (b : Int), gNp S j + 1 ≤ k + n_ → v4 = ((k : Nat) : Int) → (k ≤ gNp S j) → (0 ≤ b ∧ b ≤ 2000 * (k : Int)) → (((b ≤ t ∧ phA g (clr S j) (gNp S j) 0 t = phA g (clr S j) (gNp S j - k) k (t - b)) ∨ (t < b ∧ phA g (clr S j) (gNp S j) 0 t = -1))) → ∀ (ls : Array Slot), lv_has ls 5 [(4, .int (iI v4)), (3, .int (iI b)), (0, .ref (ad 0 j)), (1, .int (iI t)), (2, .ref q)] → W P_ l e_ (gR 2 0 0) s M_ ([.ref (ad 0 j), .int (iI t), .ref q] : List Value).toArray bl mt_ c_ s.heap [] 0 0 (MQ bl (QcRead (iI (phA g (clr S j) (gNp S j) 0 t))) ([.ref (ad 0 j), .int (iI t), .ref q] : List Value).toArray s 0 0 (fun _ => False)) (F0 M_ 5 ls [])) := by
    intro n_
    induction n_ with
    | zero => intro k v4 b hb_ e_v4 hkb hbb hA ls hl; exact absurd hb_ (by omega)
    | succ n_ ih_5 =>
      replace ih_5 := gHide.mk ih_5
      intro k v4 b hb_ e_v4 hkb hbb hA ls hl
      subst e_v4
      have hl : lv_has ls 5 [(4, .int (iI ((k : Nat) : Int))), (3, .int (iI b)), (0, .ref (ad 0 j)), (1, .int (iI t)), (2, .ref q)] := hl
      refine g_iload X dX2_phaseAt_5 hl 0 rfl ?_
      refine g_aload_n X dX2_phaseAt_7 rfl hl 2 rfl ?_
      refine g_get X hk (v := .ref (ad 3 j)) in_X2 rfl (GP.J hP hj) 3 (by decide) q94 (rfl) dX2_phaseAt_8 ?_
      refine g_alenI X hk (n := (gNp S j)) (GP.P hP hj) dX2_phaseAt_11 ?_
      refine g_icmp_ge X dX2_phaseAt_12 (tgt := 53) (by decide) (by omega) (fun c12 => ?_) (fun c12 => ?_)
      · refine g_iconst X dX2_phaseAt_53 ?_
        exact g_iretP X (hA.elim (fun h => by rw [h.2, show gNp S j - k = 0 by omega]; rfl) (fun h => h.2.symm)) dX2_phaseAt_54
      · have hgk := hg k (by omega)
        have hck := clr_b (hI.2.2 j hj) k
        refine g_iload_n X dX2_phaseAt_15 rfl hl 3 rfl ?_
        refine g_iload_n X dX2_phaseAt_16 rfl hl 1 rfl ?_
        refine g_icmp_lt X dX2_phaseAt_17 (tgt := 33) (by decide) (by omega) (fun c17 => ?_) (fun c17 => ?_)
        · have hN : ((b + (g k + clr S j k) ≤ t ∧ phA g (clr S j) (gNp S j) 0 t = phA g (clr S j) (gNp S j - (k + 1)) (k + 1) (t - (b + (g k + clr S j k)))) ∨ (t < b + (g k + clr S j k) ∧ phA g (clr S j) (gNp S j) 0 t = -1)) := by
            rcases hA with ⟨h1, h2⟩ | ⟨h1, h2⟩
            · rw [phA_step (by omega) (by omega)] at h2
              rw [show t - (b + (g k + clr S j k)) = t - b - (g k + clr S j k) by omega]
              by_cases h3 : b + (g k + clr S j k) ≤ t
              · exact Or.inl ⟨h3, h2⟩
              · refine Or.inr ⟨by omega, ?_⟩
                rw [h2]
                exact phA_neg _ _ _ (by omega) (fun i h4 h5 => (hg i (by omega)).1)
            · exact Or.inr ⟨by omega, h2⟩
          refine g_iload_n X dX2_phaseAt_33 rfl hl 1 rfl ?_
          refine g_aload_n X dX2_phaseAt_34 rfl hl 4 rfl ?_
          refine g_iload X dX2_phaseAt_35 hl 0 rfl ?_
          refine g_ialdv X hk (j := k) (n := (gNp S j)) (f := g) (v := (g k)) hq (rfl) (by omega) (rfl) dX2_phaseAt_37 ?_
          refine g_aload_n X dX2_phaseAt_38 rfl hl 2 rfl ?_
          refine g_iload X dX2_phaseAt_39 hl 0 rfl ?_
          refine g_pV X hk (As := [.int (iI ((k : Nat) : Int))]) (rest := [.int (iI (g k)), .int (iI b)]) rfl (GP.J hP hj) (p_clearing l E ad S s.heap hP hI j hj k (by omega)) 1 (lw_V q404 q405 q406 q47 q407) (by decide +kernel) ⟨⟨Nat.le_of_ble_eq_true rfl, Nat.le_of_ble_eq_true rfl⟩, Nat.le_of_ble_eq_true rfl, Nat.le_of_ble_eq_true rfl⟩ rfl rfl hl.1 (Nat.le_of_ble_eq_true rfl) dX2_phaseAt_41 ?_
          refine g_iadd X dX2_phaseAt_44 ?_
          refine g_iadd X dX2_phaseAt_45 ?_
          refine g_istore_n (lv' := [(3, .int (iI (b + ((g k) + (clr S j k))))), (4, .int (iI ((k : Nat) : Int))), (0, .ref (ad 0 j)), (1, .int (iI t)), (2, .ref q)]) X dX2_phaseAt_46 rfl hl (by decide) rfl (fun ls hl => ?_)
          refine g_iinc (lv' := [(4, .int (iI (((k : Nat) : Int) + 1))), (3, .int (iI (b + ((g k) + (clr S j k))))), (0, .ref (ad 0 j)), (1, .int (iI t)), (2, .ref q)]) X dX2_phaseAt_47 hl (k := 1) rfl (by decide) rfl (fun ls hl => ?_)
          refine g_goto X dX2_phaseAt_50 (tgt := 5) (by decide) ?_
          exact ih_5.out (k + 1) (((k : Nat) : Int) + 1) (b + ((g k) + (clr S j k))) (by omega) (by omega) (by omega) (by omega) hN _ (lv_sub hl [0, 1, 2, 3, 4] rfl)
        · refine g_iload_n X dX2_phaseAt_20 rfl hl 3 rfl ?_
          refine g_iload_n X dX2_phaseAt_21 rfl hl 1 rfl ?_
          refine g_aload_n X dX2_phaseAt_22 rfl hl 4 rfl ?_
          refine g_iload X dX2_phaseAt_23 hl 0 rfl ?_
          refine g_ialdv X hk (j := k) (n := (gNp S j)) (f := g) (v := (g k)) hq (rfl) (by omega) (rfl) dX2_phaseAt_25 ?_
          refine g_iadd X dX2_phaseAt_26 ?_
          refine g_icmp_ge X dX2_phaseAt_27 (tgt := 33) (by decide) (by omega) (fun c27 => ?_) (fun c27 => ?_)
          · have hN : ((b + (g k + clr S j k) ≤ t ∧ phA g (clr S j) (gNp S j) 0 t = phA g (clr S j) (gNp S j - (k + 1)) (k + 1) (t - (b + (g k + clr S j k)))) ∨ (t < b + (g k + clr S j k) ∧ phA g (clr S j) (gNp S j) 0 t = -1)) := by
              rcases hA with ⟨h1, h2⟩ | ⟨h1, h2⟩
              · rw [phA_step (by omega) (by omega)] at h2
                rw [show t - (b + (g k + clr S j k)) = t - b - (g k + clr S j k) by omega]
                by_cases h3 : b + (g k + clr S j k) ≤ t
                · exact Or.inl ⟨h3, h2⟩
                · refine Or.inr ⟨by omega, ?_⟩
                  rw [h2]
                  exact phA_neg _ _ _ (by omega) (fun i h4 h5 => (hg i (by omega)).1)
              · exact Or.inr ⟨by omega, h2⟩
            refine g_iload_n X dX2_phaseAt_33 rfl hl 1 rfl ?_
            refine g_aload_n X dX2_phaseAt_34 rfl hl 4 rfl ?_
            refine g_iload X dX2_phaseAt_35 hl 0 rfl ?_
            refine g_ialdv X hk (j := k) (n := (gNp S j)) (f := g) (v := (g k)) hq (rfl) (by omega) (rfl) dX2_phaseAt_37 ?_
            refine g_aload_n X dX2_phaseAt_38 rfl hl 2 rfl ?_
            refine g_iload X dX2_phaseAt_39 hl 0 rfl ?_
            refine g_pV X hk (As := [.int (iI ((k : Nat) : Int))]) (rest := [.int (iI (g k)), .int (iI b)]) rfl (GP.J hP hj) (p_clearing l E ad S s.heap hP hI j hj k (by omega)) 1 (lw_V q404 q405 q406 q47 q407) (by decide +kernel) ⟨⟨Nat.le_of_ble_eq_true rfl, Nat.le_of_ble_eq_true rfl⟩, Nat.le_of_ble_eq_true rfl, Nat.le_of_ble_eq_true rfl⟩ rfl rfl hl.1 (Nat.le_of_ble_eq_true rfl) dX2_phaseAt_41 ?_
            refine g_iadd X dX2_phaseAt_44 ?_
            refine g_iadd X dX2_phaseAt_45 ?_
            refine g_istore_n (lv' := [(3, .int (iI (b + ((g k) + (clr S j k))))), (4, .int (iI ((k : Nat) : Int))), (0, .ref (ad 0 j)), (1, .int (iI t)), (2, .ref q)]) X dX2_phaseAt_46 rfl hl (by decide) rfl (fun ls hl => ?_)
            refine g_iinc (lv' := [(4, .int (iI (((k : Nat) : Int) + 1))), (3, .int (iI (b + ((g k) + (clr S j k))))), (0, .ref (ad 0 j)), (1, .int (iI t)), (2, .ref q)]) X dX2_phaseAt_47 hl (k := 1) rfl (by decide) rfl (fun ls hl => ?_)
            refine g_goto X dX2_phaseAt_50 (tgt := 5) (by decide) ?_
            exact ih_5.out (k + 1) (((k : Nat) : Int) + 1) (b + ((g k) + (clr S j k))) (by omega) (by omega) (by omega) (by omega) hN _ (lv_sub hl [0, 1, 2, 3, 4] rfl)
          · refine g_iload X dX2_phaseAt_30 hl 0 rfl ?_
            exact g_iretP X (hA.elim (fun h => by rw [h.2, phA_hit (by omega) (by omega) (by omega)]) (fun h => by omega)) dX2_phaseAt_32
  exact loop_5.out (gNp S j + 1) 0 0 0 (by omega) (rfl) (by omega) (by omega) (Or.inl ⟨ht.1, by rw [Int.sub_zero]; rfl⟩) _ (lv_sub hl [0, 1, 2, 3, 4] rfl)
set_option maxHeartbeats 4000000 in
theorem p_behind (l : Launch) (E : EP) (ad : Nat → Nat → Nat) (S : GS) (H : Heap) (hP : GP E ad S H) (hI : gI S) (j : Nat) (hj : j < gN S) (p : Nat) (hp : p < gNp S j) (t : Int) (q : Nat) (g : Nat → Int) (hq : ce E q (aI E (gNp S j) g) H) (hg : ∀ i, i < gNp S j → 0 ≤ g i ∧ g i ≤ 1000) : gP l E yX2_behind cX2_behind 6 .int 2 H [.ref (ad 0 j), .int (iI ((p : Nat) : Int)), .int (iI t), .ref q] (begK g (clr S j) p + g p - t - 1) := by
  refine g_met (plainFor_of_name (by decide)) (Nat.le_of_ble_eq_true rfl) (fun P_ e_ s M_ bl mt_ c_ ls X _ hk hh hl => ?_)
  subst hh
  have X : gX P_ s M_ mt_ c_ cX2_behind 6 ([.ref (ad 0 j), .int (iI ((p : Nat) : Int)), .int (iI t), .ref q] : List Value).toArray RX2 (some .int) := X
  have hl : lv_has ls 6 [(0, .ref (ad 0 j)), (1, .int (iI ((p : Nat) : Int))), (2, .int (iI t)), (3, .ref q)] := hl
  have hnp := (hI.2.2 j hj).1
  refine g_iconst X dX2_behind_0 ?_
  refine g_istore (lv' := [(4, .int (iI 0)), (0, .ref (ad 0 j)), (1, .int (iI ((p : Nat) : Int))), (2, .int (iI t)), (3, .ref q)]) X dX2_behind_1 hl (by decide) rfl (fun ls hl => ?_)
  refine g_iconst X dX2_behind_3 ?_
  refine g_istore (lv' := [(5, .int (iI 0)), (4, .int (iI 0)), (0, .ref (ad 0 j)), (1, .int (iI ((p : Nat) : Int))), (2, .int (iI t)), (3, .ref q)]) X dX2_behind_4 hl (by decide) rfl (fun ls hl => ?_)
  have loop_6 : gHide (∀ (n_ : Nat) (k : Nat) (v5 : Int) (v4 : Int), p + 1 ≤ k + n_ → v5 = ((k : Nat) : Int) → v4 = (begK g (clr S j) k) → (k ≤ p) → ∀ (ls : Array Slot), lv_has ls 6 [(5, .int (iI v5)), (4, .int (iI v4)), (0, .ref (ad 0 j)), (1, .int (iI ((p : Nat) : Int))), (2, .int (iI t)), (3, .ref q)] → W P_ l e_ (gR 2 0 0) s M_ ([.ref (ad 0 j), .int (iI ((p : Nat) : Int)), .int (iI t), .ref q] : List Value).toArray bl mt_ c_ s.heap [] 0 0 (MQ bl (QcRead (iI (begK g (clr S j) p + g p - t - 1))) ([.ref (ad 0 j), .int (iI ((p : Nat) : Int)), .int (iI t), .ref q] : List Value).toArray s 0 0 (fun _ => False)) (F0 M_ 6 ls [])) := by
    intro n_
    induction n_ with
    | zero => intro k v5 v4 hb_ e_v5 e_v4 hkb ls hl; exact absurd hb_ (by omega)
    | succ n_ ih_6 =>
      replace ih_6 := gHide.mk ih_6
      intro k v5 v4 hb_ e_v5 e_v4 hkb ls hl
      subst e_v5
      subst e_v4
      have hl : lv_has ls 6 [(5, .int (iI ((k : Nat) : Int))), (4, .int (iI (begK g (clr S j) k))), (0, .ref (ad 0 j)), (1, .int (iI ((p : Nat) : Int))), (2, .int (iI t)), (3, .ref q)] := hl
      refine g_iload X dX2_behind_6 hl 0 rfl ?_
      refine g_iload_n X dX2_behind_8 rfl hl 3 rfl ?_
      refine g_icmp_ge X dX2_behind_9 (tgt := 34) (by decide) (by omega) (fun c9 => ?_) (fun c9 => ?_)
      · refine g_iload X dX2_behind_34 hl 1 rfl ?_
        refine g_aload_n X dX2_behind_36 rfl hl 5 rfl ?_
        refine g_iload_n X dX2_behind_37 rfl hl 3 rfl ?_
        refine g_ialdv X hk (j := p) (n := (gNp S j)) (f := g) (v := (g p)) hq (rfl) (by omega) (rfl) dX2_behind_38 ?_
        refine g_iadd X dX2_behind_39 ?_
        refine g_iload_n X dX2_behind_40 rfl hl 4 rfl ?_
        refine g_isub X dX2_behind_41 ?_
        refine g_iconst X dX2_behind_42 ?_
        refine g_isub X dX2_behind_43 ?_
        exact g_iretP X (by rw [show k = p by omega]) dX2_behind_44
      · refine g_iload X dX2_behind_12 hl 1 rfl ?_
        refine g_aload_n X dX2_behind_14 rfl hl 5 rfl ?_
        refine g_iload X dX2_behind_15 hl 0 rfl ?_
        refine g_ialdv X hk (j := k) (n := (gNp S j)) (f := g) (v := (g k)) hq (rfl) (by omega) (rfl) dX2_behind_17 ?_
        refine g_aload_n X dX2_behind_18 rfl hl 2 rfl ?_
        refine g_iload X dX2_behind_19 hl 0 rfl ?_
        refine g_pV X hk (As := [.int (iI ((k : Nat) : Int))]) (rest := [.int (iI (g k)), .int (iI (begK g (clr S j) k))]) rfl (GP.J hP hj) (p_clearing l E ad S s.heap hP hI j hj k (by omega)) 1 (lw_V q404 q405 q406 q47 q407) (by decide +kernel) ⟨⟨Nat.le_of_ble_eq_true rfl, Nat.le_of_ble_eq_true rfl⟩, Nat.le_of_ble_eq_true rfl, Nat.le_of_ble_eq_true rfl⟩ rfl rfl hl.1 (Nat.le_of_ble_eq_true rfl) dX2_behind_21 ?_
        refine g_iadd X dX2_behind_24 ?_
        refine g_iadd X dX2_behind_25 ?_
        refine g_istore (lv' := [(4, .int (iI ((begK g (clr S j) k) + ((g k) + (clr S j k))))), (5, .int (iI ((k : Nat) : Int))), (0, .ref (ad 0 j)), (1, .int (iI ((p : Nat) : Int))), (2, .int (iI t)), (3, .ref q)]) X dX2_behind_26 hl (by decide) rfl (fun ls hl => ?_)
        refine g_iinc (lv' := [(5, .int (iI (((k : Nat) : Int) + 1))), (4, .int (iI ((begK g (clr S j) k) + ((g k) + (clr S j k))))), (0, .ref (ad 0 j)), (1, .int (iI ((p : Nat) : Int))), (2, .int (iI t)), (3, .ref q)]) X dX2_behind_28 hl (k := 1) rfl (by decide) rfl (fun ls hl => ?_)
        refine g_goto X dX2_behind_31 (tgt := 6) (by decide) ?_
        exact ih_6.out (k + 1) (((k : Nat) : Int) + 1) ((begK g (clr S j) k) + ((g k) + (clr S j k))) (by omega) (by omega) (rfl) (by omega) _ (lv_sub hl [0, 1, 2, 3, 4, 5] rfl)
  exact loop_6.out (p + 1) 0 0 0 (by omega) (rfl) (rfl) (by omega) _ (lv_sub hl [0, 1, 2, 3, 4, 5] rfl)
/-- whether a bus has changed the greens of the cycle of second t -/
def chg (S : GS) (j : Nat) (t : Int) : Bool := decide (0 < gChn S j ∧ gChf S j = t - (t - gOff S j) % gCyc S)
theorem em_b (t c : Int) (h : 30 ≤ c) : 0 ≤ t % c ∧ t % c < c := ⟨Int.emod_nonneg _ (by omega), Int.emod_lt_of_pos _ (by omega)⟩
set_option maxHeartbeats 4000000 in
theorem p_isChanged (l : Launch) (E : EP) (ad : Nat → Nat → Nat) (S : GS) (H : Heap) (hP : GP E ad S H) (hI : gI S) (j : Nat) (hj : j < gN S) (t : Int) (ht : -1000000 ≤ t ∧ t ≤ 1000000) : gP l E yX2_isChanged cX2_isChanged 2 .boolean 2 H [.ref (ad 0 j), .int (iI t)] (bZ (chg S j t)) := by
  refine g_met (plainFor_of_name (by decide)) (Nat.le_of_ble_eq_true rfl) (fun P_ e_ s M_ bl mt_ c_ ls X _ hk hh hl => ?_)
  subst hh
  have X : gX P_ s M_ mt_ c_ cX2_isChanged 2 ([.ref (ad 0 j), .int (iI t)] : List Value).toArray RX2 (some .boolean) := X
  have hl : lv_has ls 2 [(0, .ref (ad 0 j)), (1, .int (iI t))] := hl
  have hnp := (hI.2.2 j hj).1
  have hc := hI.2.1
  have ho := (hI.2.2 j hj).2.2.2.2.1
  have hch := (hI.2.2 j hj).2.2.2.2.2.2.2
  have hm := em_b (t - gOff S j) (gCyc S) hc.1
  refine g_aload_n X dX2_isChanged_0 rfl hl 0 rfl ?_
  refine g_get X hk (v := .ref (ad 4 j)) in_X2 rfl (GP.J hP hj) 7 (by decide) q102 (rfl) dX2_isChanged_1 ?_
  refine g_alenI X hk (n := (gChn S j)) (GP.G hP hj) dX2_isChanged_4 ?_
  refine g_if_le X dX2_isChanged_5 (tgt := 26) (by decide) (by omega) (fun c5 => ?_) (fun c5 => ?_)
  · refine g_iconst X dX2_isChanged_26 ?_
    exact g_zretP X (by first | exact bZ_le _ | omega) (by unfold chg; grind [bZ]) dX2_isChanged_27
  · refine g_aload_n X dX2_isChanged_8 rfl hl 0 rfl ?_
    refine g_get X hk (v := .int (iI (gChf S j))) in_X2 rfl (GP.J hP hj) 8 (by decide) q104 (rfl) dX2_isChanged_9 ?_
    refine g_iload_n X dX2_isChanged_12 rfl hl 1 rfl ?_
    refine g_aload_n X dX2_isChanged_13 rfl hl 0 rfl ?_
    refine g_iload_n X dX2_isChanged_14 rfl hl 1 rfl ?_
    refine g_pV X hk (As := [.int (iI t)]) (rest := [.int (iI t), .int (iI (gChf S j))]) rfl (GP.J hP hj) (p_placeIn l E ad S s.heap hP hI j hj t (by omega)) 1 (lw_V q533 q443 q444 q47 q445) (by decide +kernel) ⟨⟨Nat.le_of_ble_eq_true rfl, Nat.le_of_ble_eq_true rfl⟩, Nat.le_of_ble_eq_true rfl, Nat.le_of_ble_eq_true rfl⟩ rfl rfl hl.1 (Nat.le_of_ble_eq_true rfl) dX2_isChanged_15 ?_
    refine g_isub X dX2_isChanged_18 ?_
    refine g_icmp_ne X dX2_isChanged_19 (tgt := 26) (by decide) (by omega) (fun c19 => ?_) (fun c19 => ?_)
    · refine g_iconst X dX2_isChanged_26 ?_
      exact g_zretP X (by first | exact bZ_le _ | omega) (by unfold chg; grind [bZ]) dX2_isChanged_27
    · refine g_iconst X dX2_isChanged_22 ?_
      refine g_goto X dX2_isChanged_23 (tgt := 27) (by decide) ?_
      exact g_zretP X (by first | exact bZ_le _ | omega) (by unfold chg; grind [bZ]) dX2_isChanged_27
/-- the phase of second t, by a plan g or by what a bus changed; whether it is green then for m -/
def phN (S : GS) (j : Nat) (g : Nat → Int) (t : Int) : Int := phA (if chg S j t = true then gCh S j else g) (clr S j) (gNp S j) 0 ((t - gOff S j) % gCyc S)
def rgn (S : GS) (j : Nat) (g : Nat → Int) (m t : Int) : Bool := decide (¬ phN S j g t = -1) && hasB (gPh S j (phN S j g t).toNat) m
set_option maxHeartbeats 4000000 in
theorem p_runsGreen (l : Launch) (E : EP) (ad : Nat → Nat → Nat) (S : GS) (H : Heap) (hP : GP E ad S H) (hI : gI S) (j : Nat) (hj : j < gN S) (v : Int) (t : Int) (ht : -1000000 ≤ t ∧ t ≤ 1000000) (q : Nat) (g : Nat → Int) (hq : ce E q (aI E (gNp S j) g) H) (hg : ∀ i, i < gNp S j → 0 ≤ g i ∧ g i ≤ 1000) : gP l E yX2_runsGreen cX2_runsGreen 5 .boolean 3 H [.ref (ad 0 j), .int (iI v), .int (iI t), .ref q] (bZ (rgn S j g v t)) := by
  refine g_met (plainFor_of_name (by decide)) (Nat.le_of_ble_eq_true rfl) (fun P_ e_ s M_ bl mt_ c_ ls X _ hk hh hl => ?_)
  subst hh
  have X : gX P_ s M_ mt_ c_ cX2_runsGreen 5 ([.ref (ad 0 j), .int (iI v), .int (iI t), .ref q] : List Value).toArray RX2 (some .boolean) := X
  have hl : lv_has ls 5 [(0, .ref (ad 0 j)), (1, .int (iI v)), (2, .int (iI t)), (3, .ref q)] := hl
  have hnp := (hI.2.2 j hj).1
  have hc := hI.2.1
  have ho := (hI.2.2 j hj).2.2.2.2.1
  have hch := (hI.2.2 j hj).2.2.2.2.2.2.2
  have hm := em_b (t - gOff S j) (gCyc S) hc.1
  have hz := bZ_le (chg S j t)
  have hr := phA_rng (if chg S j t = true then gCh S j else g) (clr S j) (gNp S j) 0 ((t - gOff S j) % gCyc S)
  refine g_aload_n X dX2_runsGreen_0 rfl hl 0 rfl ?_
  refine g_aload_n X dX2_runsGreen_1 rfl hl 0 rfl ?_
  refine g_iload_n X dX2_runsGreen_2 rfl hl 2 rfl ?_
  refine g_pV X hk (As := [.int (iI t)]) (rest := [.ref (ad 0 j)]) rfl (GP.J hP hj) (p_placeIn l E ad S s.heap hP hI j hj t (by omega)) 1 (lw_V q533 q443 q444 q47 q445) (by decide +kernel) ⟨⟨Nat.le_of_ble_eq_true rfl, Nat.le_of_ble_eq_true rfl⟩, Nat.le_of_ble_eq_true rfl, Nat.le_of_ble_eq_true rfl⟩ rfl rfl hl.1 (Nat.le_of_ble_eq_true rfl) dX2_runsGreen_3 ?_
  refine g_aload_n X dX2_runsGreen_6 rfl hl 0 rfl ?_
  refine g_iload_n X dX2_runsGreen_7 rfl hl 2 rfl ?_
  refine g_pV X hk (As := [.int (iI t)]) (rest := [.int (iI ((t - gOff S j) % gCyc S)), .ref (ad 0 j)]) rfl (GP.J hP hj) (p_isChanged l E ad S s.heap hP hI j hj t (by omega)) 1 (lw_V q534 q535 q536 q47 q537) (by decide +kernel) ⟨⟨Nat.le_of_ble_eq_true rfl, Nat.le_of_ble_eq_true rfl⟩, Nat.le_of_ble_eq_true rfl, Nat.le_of_ble_eq_true rfl⟩ rfl rfl hl.1 (Nat.le_of_ble_eq_true rfl) dX2_runsGreen_8 ?_
  refine g_if_eq X dX2_runsGreen_11 (tgt := 21) (by decide) (by omega) (fun c11 => ?_) (fun c11 => ?_)
  · have c11 : ¬ chg S j t = true := by grind [bZ]
    rw [if_neg c11] at hr
    have hv : rgn S j g v t = (decide (¬ phA g (clr S j) (gNp S j) 0 ((t - gOff S j) % gCyc S) = -1) && hasB (gPh S j (phA g (clr S j) (gNp S j) 0 ((t - gOff S j) % gCyc S)).toNat) v) := by unfold rgn phN; rw [if_neg c11]
    refine g_aload_n X dX2_runsGreen_21 rfl hl 3 rfl ?_
    refine g_pV X hk (As := [.int (iI ((t - gOff S j) % gCyc S)), .ref q]) (rest := []) rfl (GP.J hP hj) (p_phaseAt l E ad S s.heap hP hI j hj ((t - gOff S j) % gCyc S) (by omega) q g hq hg) 2 (lw_V q538 q431 q432 q47 q433) (by decide +kernel) ⟨⟨Nat.le_of_ble_eq_true rfl, Nat.le_of_ble_eq_true rfl⟩, Nat.le_of_ble_eq_true rfl, Nat.le_of_ble_eq_true rfl⟩ rfl rfl hl.1 (Nat.le_of_ble_eq_true rfl) dX2_runsGreen_22 ?_
    refine g_istore (lv' := [(4, .int (iI (phA g (clr S j) (gNp S j) 0 ((t - gOff S j) % gCyc S)))), (0, .ref (ad 0 j)), (1, .int (iI v)), (2, .int (iI t)), (3, .ref q)]) X dX2_runsGreen_25 hl (by decide) rfl (fun ls hl => ?_)
    refine g_iload X dX2_runsGreen_27 hl 0 rfl ?_
    refine g_iconst X dX2_runsGreen_29 ?_
    refine g_icmp_eq X dX2_runsGreen_30 (tgt := 51) (by decide) (by omega) (fun c30 => ?_) (fun c30 => ?_)
    · refine g_iconst X dX2_runsGreen_51 ?_
      exact g_zretP X (by first | exact bZ_le _ | omega) (by rw [hv]; grind [bZ]) dX2_runsGreen_52
    · refine g_aload_n X dX2_runsGreen_33 rfl hl 1 rfl ?_
      refine g_get X hk (v := .ref (ad 3 j)) in_X2 rfl (GP.J hP hj) 3 (by decide) q94 (rfl) dX2_runsGreen_34 ?_
      refine g_iload X dX2_runsGreen_37 hl 0 rfl ?_
      refine g_ialdv X hk (j := ((phA g (clr S j) (gNp S j) 0 ((t - gOff S j) % gCyc S))).toNat) (n := (gNp S j)) (f := (gPh S j)) (v := ((gPh S j) (((phA g (clr S j) (gNp S j) 0 ((t - gOff S j) % gCyc S))).toNat))) (GP.P hP hj) (by omega) (by omega) (rfl) dX2_runsGreen_39 ?_
      refine g_iload_n X dX2_runsGreen_40 rfl hl 2 rfl ?_
      refine g_pSN X hk (As := [.int (iI ((gPh S j) (((phA g (clr S j) (gNp S j) 0 ((t - gOff S j) % gCyc S))).toNat))), .int (iI v)]) (rest := []) (p_has l E ((gPh S j) (((phA g (clr S j) (gNp S j) 0 ((t - gOff S j) % gCyc S))).toNat)) v s.heap) 2 hk.ev.2.1 q46 q324 q325 (by decide +kernel) ⟨⟨Nat.le_of_ble_eq_true rfl, Nat.le_of_ble_eq_true rfl⟩, Nat.le_of_ble_eq_true rfl, Nat.le_of_ble_eq_true rfl⟩ rfl rfl hl.1 (Nat.le_of_ble_eq_true rfl) dX2_runsGreen_41 ?_
      have h44 := bZ_le (hasB (gPh S j ((phA g (clr S j) (gNp S j) 0 ((t - gOff S j) % gCyc S))).toNat) v)
      refine g_if_eq X dX2_runsGreen_44 (tgt := 51) (by decide) (by omega) (fun c44 => ?_) (fun c44 => ?_)
      · refine g_iconst X dX2_runsGreen_51 ?_
        exact g_zretP X (by first | exact bZ_le _ | omega) (by rw [hv]; grind [bZ]) dX2_runsGreen_52
      · refine g_iconst X dX2_runsGreen_47 ?_
        refine g_goto X dX2_runsGreen_48 (tgt := 52) (by decide) ?_
        exact g_zretP X (by first | exact bZ_le _ | omega) (by rw [hv]; grind [bZ]) dX2_runsGreen_52
  · have c11 : chg S j t = true := by grind [bZ]
    rw [if_pos c11] at hr
    have hE : gChn S j = gNp S j := by have := c11; simp only [chg, decide_eq_true_eq] at this; omega
    have hv : rgn S j g v t = (decide (¬ phA (gCh S j) (clr S j) (gNp S j) 0 ((t - gOff S j) % gCyc S) = -1) && hasB (gPh S j (phA (gCh S j) (clr S j) (gNp S j) 0 ((t - gOff S j) % gCyc S)).toNat) v) := by unfold rgn phN; rw [if_pos c11]
    refine g_aload_n X dX2_runsGreen_14 rfl hl 0 rfl ?_
    refine g_get X hk (v := .ref (ad 4 j)) in_X2 rfl (GP.J hP hj) 7 (by decide) q102 (rfl) dX2_runsGreen_15 ?_
    refine g_goto X dX2_runsGreen_18 (tgt := 22) (by decide) ?_
    refine g_pV X hk (As := [.int (iI ((t - gOff S j) % gCyc S)), .ref (ad 4 j)]) (rest := []) rfl (GP.J hP hj) (p_phaseAt l E ad S s.heap hP hI j hj ((t - gOff S j) % gCyc S) (by omega) (ad 4 j) (gCh S j) (hE ▸ GP.G hP hj) (hch.2.2 (by omega))) 2 (lw_V q538 q431 q432 q47 q433) (by decide +kernel) ⟨⟨Nat.le_of_ble_eq_true rfl, Nat.le_of_ble_eq_true rfl⟩, Nat.le_of_ble_eq_true rfl, Nat.le_of_ble_eq_true rfl⟩ rfl rfl hl.1 (Nat.le_of_ble_eq_true rfl) dX2_runsGreen_22 ?_
    refine g_istore (lv' := [(4, .int (iI (phA (gCh S j) (clr S j) (gNp S j) 0 ((t - gOff S j) % gCyc S)))), (0, .ref (ad 0 j)), (1, .int (iI v)), (2, .int (iI t)), (3, .ref q)]) X dX2_runsGreen_25 hl (by decide) rfl (fun ls hl => ?_)
    refine g_iload X dX2_runsGreen_27 hl 0 rfl ?_
    refine g_iconst X dX2_runsGreen_29 ?_
    refine g_icmp_eq X dX2_runsGreen_30 (tgt := 51) (by decide) (by omega) (fun c30 => ?_) (fun c30 => ?_)
    · refine g_iconst X dX2_runsGreen_51 ?_
      exact g_zretP X (by first | exact bZ_le _ | omega) (by rw [hv]; grind [bZ]) dX2_runsGreen_52
    · refine g_aload_n X dX2_runsGreen_33 rfl hl 1 rfl ?_
      refine g_get X hk (v := .ref (ad 3 j)) in_X2 rfl (GP.J hP hj) 3 (by decide) q94 (rfl) dX2_runsGreen_34 ?_
      refine g_iload X dX2_runsGreen_37 hl 0 rfl ?_
      refine g_ialdv X hk (j := ((phA (gCh S j) (clr S j) (gNp S j) 0 ((t - gOff S j) % gCyc S))).toNat) (n := (gNp S j)) (f := (gPh S j)) (v := ((gPh S j) (((phA (gCh S j) (clr S j) (gNp S j) 0 ((t - gOff S j) % gCyc S))).toNat))) (GP.P hP hj) (by omega) (by omega) (rfl) dX2_runsGreen_39 ?_
      refine g_iload_n X dX2_runsGreen_40 rfl hl 2 rfl ?_
      refine g_pSN X hk (As := [.int (iI ((gPh S j) (((phA (gCh S j) (clr S j) (gNp S j) 0 ((t - gOff S j) % gCyc S))).toNat))), .int (iI v)]) (rest := []) (p_has l E ((gPh S j) (((phA (gCh S j) (clr S j) (gNp S j) 0 ((t - gOff S j) % gCyc S))).toNat)) v s.heap) 2 hk.ev.2.1 q46 q324 q325 (by decide +kernel) ⟨⟨Nat.le_of_ble_eq_true rfl, Nat.le_of_ble_eq_true rfl⟩, Nat.le_of_ble_eq_true rfl, Nat.le_of_ble_eq_true rfl⟩ rfl rfl hl.1 (Nat.le_of_ble_eq_true rfl) dX2_runsGreen_41 ?_
      have h44 := bZ_le (hasB (gPh S j ((phA (gCh S j) (clr S j) (gNp S j) 0 ((t - gOff S j) % gCyc S))).toNat) v)
      refine g_if_eq X dX2_runsGreen_44 (tgt := 51) (by decide) (by omega) (fun c44 => ?_) (fun c44 => ?_)
      · refine g_iconst X dX2_runsGreen_51 ?_
        exact g_zretP X (by first | exact bZ_le _ | omega) (by rw [hv]; grind [bZ]) dX2_runsGreen_52
      · refine g_iconst X dX2_runsGreen_47 ?_
        refine g_goto X dX2_runsGreen_48 (tgt := 52) (by decide) ?_
        exact g_zretP X (by first | exact bZ_le _ | omega) (by rw [hv]; grind [bZ]) dX2_runsGreen_52
