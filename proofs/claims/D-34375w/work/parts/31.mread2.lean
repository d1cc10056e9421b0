/-! the reference: what is read alone (2) -/
set_option maxHeartbeats 4000000 in
theorem m_errorOfConflict (l : Launch) (E : EP) (am : Nat → Nat) (S : GS) (M : MS) (H : Heap) (hM : MP E am M H) (hI : gI S) (hR : MR S M) (j a b x : Int) (hj : -2147483648 ≤ j ∧ j ≤ 2147483647) (ha : -2147483648 ≤ a ∧ a ≤ 2147483647) (hb : -2147483648 ≤ b ∧ b ≤ 2147483647) (hx : -2147483648 ≤ x ∧ x ≤ 2147483647) : gP l E yX3_errorOfConflict cX3_errorOfConflict 8 .int 2 H [.ref (am 0), .int (iI j), .int (iI a), .int (iI b), .int (iI x)] (erC S j a b x) := by
  refine g_met (plainFor_of_name (by decide)) (Nat.le_of_ble_eq_true rfl) (fun P_ e_ s M_ bl mt_ c_ ls X _ hk hh hl => ?_)
  subst hh
  have X : gX P_ s M_ mt_ c_ cX3_errorOfConflict 8 ([.ref (am 0), .int (iI j), .int (iI a), .int (iI b), .int (iI x)] : List Value).toArray RX3 (some .int) := X
  have hl : lv_has ls 8 [(0, .ref (am 0)), (1, .int (iI j)), (2, .int (iI a)), (3, .int (iI b)), (4, .int (iI x))] := hl
  have hn5 := hI.1.1
  have hrun := hI.1.2.1
  have hnp : ∀ i, i < gN S → 1 ≤ gNp S i ∧ gNp S i ≤ 4 := fun i hi => (hI.2.2 i hi).1
  refine g_aload_n X dX3_errorOfConflict_0 rfl hl 0 rfl ?_
  refine g_iload_n X dX3_errorOfConflict_1 rfl hl 1 rfl ?_
  refine g_pV X hk (As := [.int (iI j)]) (rest := []) rfl (MP.O hM) (m_isJunction l E am S M s.heap hM hI hR j (by omega)) 1 (lw_V q706 q708 qs17 q48 q709) (by decide +kernel) ⟨⟨Nat.le_of_ble_eq_true rfl, Nat.le_of_ble_eq_true rfl⟩, Nat.le_of_ble_eq_true rfl, Nat.le_of_ble_eq_true rfl⟩ rfl rfl hl.1 (Nat.le_of_ble_eq_true rfl) dX3_errorOfConflict_2 ?_
  have h5 := bZ_le (decide (0 ≤ j ∧ j ≤ (gN S : Int) - 1))
  refine g_if_eq X dX3_errorOfConflict_5 (tgt := 22) (by decide) (by omega) (fun c5 => ?_) (fun c5 => ?_)
  · have hV : ¬ ((0 ≤ j ∧ j ≤ (gN S : Int) - 1) ∧ (0 ≤ a ∧ a ≤ 3) ∧ (0 ≤ b ∧ b ≤ 3)) := by grind [bZ]
    refine g_iconst X dX3_errorOfConflict_22 ?_
    exact g_iretP X (by unfold erC; rw [if_pos hV]) dX3_errorOfConflict_23
  · refine g_iload_n X dX3_errorOfConflict_8 rfl hl 2 rfl ?_
    refine g_pS X hk (As := [.int (iI a)]) (rest := []) (m_isMovement l E a s.heap (by omega)) 1 (lw_S q710 q711 q48 q712) (by decide +kernel) ⟨⟨Nat.le_of_ble_eq_true rfl, Nat.le_of_ble_eq_true rfl⟩, Nat.le_of_ble_eq_true rfl, Nat.le_of_ble_eq_true rfl⟩ rfl rfl hl.1 (Nat.le_of_ble_eq_true rfl) dX3_errorOfConflict_9 ?_
    have h12 := bZ_le (decide (0 ≤ a ∧ a ≤ 3))
    refine g_if_eq X dX3_errorOfConflict_12 (tgt := 22) (by decide) (by omega) (fun c12 => ?_) (fun c12 => ?_)
    · have hV : ¬ ((0 ≤ j ∧ j ≤ (gN S : Int) - 1) ∧ (0 ≤ a ∧ a ≤ 3) ∧ (0 ≤ b ∧ b ≤ 3)) := by grind [bZ]
      refine g_iconst X dX3_errorOfConflict_22 ?_
      exact g_iretP X (by unfold erC; rw [if_pos hV]) dX3_errorOfConflict_23
    · refine g_iload_n X dX3_errorOfConflict_15 rfl hl 3 rfl ?_
      refine g_pS X hk (As := [.int (iI b)]) (rest := []) (m_isMovement l E b s.heap (by omega)) 1 (lw_S q710 q711 q48 q712) (by decide +kernel) ⟨⟨Nat.le_of_ble_eq_true rfl, Nat.le_of_ble_eq_true rfl⟩, Nat.le_of_ble_eq_true rfl, Nat.le_of_ble_eq_true rfl⟩ rfl rfl hl.1 (Nat.le_of_ble_eq_true rfl) dX3_errorOfConflict_16 ?_
      have h19 := bZ_le (decide (0 ≤ b ∧ b ≤ 3))
      refine g_if_ne X dX3_errorOfConflict_19 (tgt := 24) (by decide) (by omega) (fun c19 => ?_) (fun c19 => ?_)
      · have hV : (0 ≤ j ∧ j ≤ (gN S : Int) - 1) ∧ (0 ≤ a ∧ a ≤ 3) ∧ (0 ≤ b ∧ b ≤ 3) := by grind [bZ]
        have hnpj := hnp j.toNat (by omega)
        refine g_iconst X dX3_errorOfConflict_24 ?_
        refine g_istore (lv' := [(5, .int (iI 0)), (0, .ref (am 0)), (1, .int (iI j)), (2, .int (iI a)), (3, .int (iI b)), (4, .int (iI x))]) X dX3_errorOfConflict_25 hl (by decide) rfl (fun ls hl => ?_)
        refine g_iconst X dX3_errorOfConflict_27 ?_
        refine g_istore (lv' := [(6, .int (iI 0)), (5, .int (iI 0)), (0, .ref (am 0)), (1, .int (iI j)), (2, .int (iI a)), (3, .int (iI b)), (4, .int (iI x))]) X dX3_errorOfConflict_28 hl (by decide) rfl (fun ls hl => ?_)
        have loop_30 : gHide (∀ (n_ : Nat) (k : Nat) (v6 : Int) (v5 : Int), gNp S j.toNat + 1 ≤ k + n_ → v6 = ((k : Nat) : Int) → v5 = (bZ (tgK S j.toNat a b k)) → (k ≤ gNp S j.toNat) → ∀ (ls : Array Slot), lv_has ls 8 [(6, .int (iI v6)), (5, .int (iI v5)), (0, .ref (am 0)), (1, .int (iI j)), (2, .int (iI a)), (3, .int (iI b)), (4, .int (iI x))] → W P_ l e_ (gR 2 0 0) s M_ ([.ref (am 0), .int (iI j), .int (iI a), .int (iI b), .int (iI x)] : List Value).toArray bl mt_ c_ s.heap [] 0 0 (MQ bl (QcRead (iI (erC S j a b x))) ([.ref (am 0), .int (iI j), .int (iI a), .int (iI b), .int (iI x)] : List Value).toArray s 0 0 (fun _ => False)) (F0 M_ 30 ls [])) := by
          intro n_
          induction n_ with
          | zero => intro k v6 v5 hb_ e_v6 e_v5 hkb ls hl; exact absurd hb_ (by omega)
          | succ n_ ih_30 =>
            replace ih_30 := gHide.mk ih_30
            intro k v6 v5 hb_ e_v6 e_v5 hkb ls hl
            subst e_v6
            subst e_v5
            have hl : lv_has ls 8 [(6, .int (iI ((k : Nat) : Int))), (5, .int (iI (bZ (tgK S j.toNat a b k)))), (0, .ref (am 0)), (1, .int (iI j)), (2, .int (iI a)), (3, .int (iI b)), (4, .int (iI x))] := hl
            have hz := bZ_le (tgK S j.toNat a b k)
            refine g_iload X dX3_errorOfConflict_30 hl 0 rfl ?_
            refine g_aload_n X dX3_errorOfConflict_32 rfl hl 2 rfl ?_
            refine g_get X hk (v := .ref (am 6)) in_X3 rfl (MP.O hM) 6 (by decide) q607 (rfl) dX3_errorOfConflict_33 ?_
            refine g_iload_n X dX3_errorOfConflict_36 rfl hl 3 rfl ?_
            refine g_ialdv X hk (j := j.toNat) (n := 5) (f := (M 6)) (v := (((gNp S j.toNat) : Nat) : Int)) (MP.I hM 6 rfl) (by omega) (by omega) (MR.np hR (by omega)) dX3_errorOfConflict_37 ?_
            refine g_icmp_ge X dX3_errorOfConflict_38 (tgt := 90) (by decide) (by omega) (fun c38 => ?_) (fun c38 => ?_)
            · refine g_iload_n X dX3_errorOfConflict_90 rfl hl 4 rfl ?_
              refine g_iload_n X dX3_errorOfConflict_91 rfl hl 5 rfl ?_
              refine g_icmp_eq X dX3_errorOfConflict_92 (tgt := 106) (by decide) (by omega) (fun c92 => ?_) (fun c92 => ?_)
              · refine g_iconst X dX3_errorOfConflict_106 ?_
                refine g_goto X dX3_errorOfConflict_107 (tgt := 133) (by decide) ?_
                exact g_iretP X (by rw [show erC S j a b x = _ from if_neg (by grind), show gNp S j.toNat = k by omega]; grind [bZ]) dX3_errorOfConflict_133
              · refine g_iload X dX3_errorOfConflict_95 hl 6 rfl ?_
                refine g_iconst X dX3_errorOfConflict_97 ?_
                refine g_bipush X dX3_errorOfConflict_98 rfl ?_
                refine g_pS X hk (As := [.int (iI x), .int (iI (-1)), .int (iI 9)]) (rest := []) (m_in l E x (-1) 9 s.heap (by omega) (by omega) (by omega)) 3 (lw_S q691 q692 q48 q693) (by decide +kernel) ⟨⟨Nat.le_of_ble_eq_true rfl, Nat.le_of_ble_eq_true rfl⟩, Nat.le_of_ble_eq_true rfl, Nat.le_of_ble_eq_true rfl⟩ rfl rfl hl.1 (Nat.le_of_ble_eq_true rfl) dX3_errorOfConflict_100 ?_
                have h103 := bZ_le (decide (-1 ≤ x ∧ x ≤ 9))
                refine g_if_ne X dX3_errorOfConflict_103 (tgt := 110) (by decide) (by omega) (fun c103 => ?_) (fun c103 => ?_)
                · refine g_iload X dX3_errorOfConflict_110 hl 6 rfl ?_
                  refine g_iconst X dX3_errorOfConflict_112 ?_
                  refine g_icmp_eq X dX3_errorOfConflict_113 (tgt := 121) (by decide) (by omega) (fun c113 => ?_) (fun c113 => ?_)
                  · refine g_aload_n X dX3_errorOfConflict_121 rfl hl 2 rfl ?_
                    refine g_get X hk (v := .int (iI (gRun S))) in_X3 rfl (MP.O hM) 3 (by decide) q604 (sI (MR.run hR)) dX3_errorOfConflict_122 ?_
                    refine g_if_eq X dX3_errorOfConflict_125 (tgt := 132) (by decide) (by omega) (fun c125 => ?_) (fun c125 => ?_)
                    · refine g_iconst X dX3_errorOfConflict_132 ?_
                      exact g_iretP X (by rw [show erC S j a b x = _ from if_neg (by grind), show gNp S j.toNat = k by omega]; grind [bZ]) dX3_errorOfConflict_133
                    · refine g_iconst X dX3_errorOfConflict_128 ?_
                      refine g_goto X dX3_errorOfConflict_129 (tgt := 133) (by decide) ?_
                      exact g_iretP X (by rw [show erC S j a b x = _ from if_neg (by grind), show gNp S j.toNat = k by omega]; grind [bZ]) dX3_errorOfConflict_133
                  · refine g_iload X dX3_errorOfConflict_116 hl 1 rfl ?_
                    refine g_if_ne X dX3_errorOfConflict_118 (tgt := 128) (by decide) (by omega) (fun c118 => ?_) (fun c118 => ?_)
                    · refine g_iconst X dX3_errorOfConflict_128 ?_
                      refine g_goto X dX3_errorOfConflict_129 (tgt := 133) (by decide) ?_
                      exact g_iretP X (by rw [show erC S j a b x = _ from if_neg (by grind), show gNp S j.toNat = k by omega]; grind [bZ]) dX3_errorOfConflict_133
                    · refine g_aload_n X dX3_errorOfConflict_121 rfl hl 2 rfl ?_
                      refine g_get X hk (v := .int (iI (gRun S))) in_X3 rfl (MP.O hM) 3 (by decide) q604 (sI (MR.run hR)) dX3_errorOfConflict_122 ?_
                      refine g_if_eq X dX3_errorOfConflict_125 (tgt := 132) (by decide) (by omega) (fun c125 => ?_) (fun c125 => ?_)
                      · refine g_iconst X dX3_errorOfConflict_132 ?_
                        exact g_iretP X (by rw [show erC S j a b x = _ from if_neg (by grind), show gNp S j.toNat = k by omega]; grind [bZ]) dX3_errorOfConflict_133
                      · refine g_iconst X dX3_errorOfConflict_128 ?_
                        refine g_goto X dX3_errorOfConflict_129 (tgt := 133) (by decide) ?_
                        exact g_iretP X (by rw [show erC S j a b x = _ from if_neg (by grind), show gNp S j.toNat = k by omega]; grind [bZ]) dX3_errorOfConflict_133
                · refine g_iconst X dX3_errorOfConflict_106 ?_
                  refine g_goto X dX3_errorOfConflict_107 (tgt := 133) (by decide) ?_
                  exact g_iretP X (by rw [show erC S j a b x = _ from if_neg (by grind), show gNp S j.toNat = k by omega]; grind [bZ]) dX3_errorOfConflict_133
            · refine g_aload_n X dX3_errorOfConflict_41 rfl hl 2 rfl ?_
              refine g_get X hk (v := .ref (am 5)) in_X3 rfl (MP.O hM) 5 (by decide) q606 (rfl) dX3_errorOfConflict_42 ?_
              refine g_iconst X dX3_errorOfConflict_45 ?_
              refine g_iload_n X dX3_errorOfConflict_46 rfl hl 3 rfl ?_
              refine g_imul X dX3_errorOfConflict_47 ?_
              refine g_iload X dX3_errorOfConflict_48 hl 0 rfl ?_
              refine g_iadd X dX3_errorOfConflict_50 ?_
              refine g_ialdv X hk (j := (4 * j.toNat) + k) (n := 20) (f := (M 5)) (v := (gPh S j.toNat k)) (MP.I hM 5 rfl) (by omega) (by omega) (MR.ph hR (by omega) (by omega)) dX3_errorOfConflict_51 ?_
              refine g_istore (lv' := [(7, .int (iI (gPh S j.toNat k))), (6, .int (iI ((k : Nat) : Int))), (5, .int (iI (bZ (tgK S j.toNat a b k)))), (0, .ref (am 0)), (1, .int (iI j)), (2, .int (iI a)), (3, .int (iI b)), (4, .int (iI x))]) X dX3_errorOfConflict_52 hl (by decide) rfl (fun ls hl => ?_)
              have join_82 : gHide (∀ (z : Int) (ls : Array Slot), z = (bZ (tgK S j.toNat a b (k + 1))) → lv_has ls 8 [(7, .int (iI (gPh S j.toNat k))), (6, .int (iI ((k : Nat) : Int))), (5, .int (iI (bZ (tgK S j.toNat a b k)))), (0, .ref (am 0)), (1, .int (iI j)), (2, .int (iI a)), (3, .int (iI b)), (4, .int (iI x))] → W P_ l e_ (gR 2 0 0) s M_ ([.ref (am 0), .int (iI j), .int (iI a), .int (iI b), .int (iI x)] : List Value).toArray bl mt_ c_ s.heap [] 0 0 (MQ bl (QcRead (iI (erC S j a b x))) ([.ref (am 0), .int (iI j), .int (iI a), .int (iI b), .int (iI x)] : List Value).toArray s 0 0 (fun _ => False)) (F0 M_ 82 ls [.int (iI z)])) := by
                intro z ls e_z hl
                subst e_z
                have hl : lv_has ls 8 [(7, .int (iI (gPh S j.toNat k))), (6, .int (iI ((k : Nat) : Int))), (5, .int (iI (bZ (tgK S j.toNat a b k)))), (0, .ref (am 0)), (1, .int (iI j)), (2, .int (iI a)), (3, .int (iI b)), (4, .int (iI x))] := hl
                refine g_istore (lv' := [(5, .int (iI (bZ (tgK S j.toNat a b (k + 1))))), (7, .int (iI (gPh S j.toNat k))), (6, .int (iI ((k : Nat) : Int))), (0, .ref (am 0)), (1, .int (iI j)), (2, .int (iI a)), (3, .int (iI b)), (4, .int (iI x))]) X dX3_errorOfConflict_82 hl (by decide) rfl (fun ls hl => ?_)
                refine g_iinc (lv' := [(6, .int (iI (((k : Nat) : Int) + 1))), (5, .int (iI (bZ (tgK S j.toNat a b (k + 1))))), (7, .int (iI (gPh S j.toNat k))), (0, .ref (am 0)), (1, .int (iI j)), (2, .int (iI a)), (3, .int (iI b)), (4, .int (iI x))]) X dX3_errorOfConflict_84 hl (k := 2) rfl (by decide) rfl (fun ls hl => ?_)
                refine g_goto X dX3_errorOfConflict_87 (tgt := 30) (by decide) ?_
                exact ih_30.out (k + 1) (((k : Nat) : Int) + 1) (bZ (tgK S j.toNat a b (k + 1))) (by omega) (by omega) (rfl) (by omega) _ (lv_sub hl [0, 1, 3, 4, 5, 6, 7] rfl)
              refine g_iload X dX3_errorOfConflict_54 hl 2 rfl ?_
              refine g_if_ne X dX3_errorOfConflict_56 (tgt := 77) (by decide) (by omega) (fun c56 => ?_) (fun c56 => ?_)
              · refine g_iconst X dX3_errorOfConflict_77 ?_
                refine g_goto X dX3_errorOfConflict_78 (tgt := 82) (by decide) ?_
                exact join_82.out 1 _ (by grind [bZ, tgK]) (lv_sub hl [0, 1, 2, 3, 4, 5, 6, 7] rfl)
              · refine g_iload X dX3_errorOfConflict_59 hl 0 rfl ?_
                refine g_iload_n X dX3_errorOfConflict_61 rfl hl 5 rfl ?_
                refine g_pS X hk (As := [.int (iI (gPh S j.toNat k)), .int (iI a)]) (rest := []) (m_has l E (gPh S j.toNat k) a s.heap) 2 (lw_S q713 q714 q48 q715) (by decide +kernel) ⟨⟨Nat.le_of_ble_eq_true rfl, Nat.le_of_ble_eq_true rfl⟩, Nat.le_of_ble_eq_true rfl, Nat.le_of_ble_eq_true rfl⟩ rfl rfl hl.1 (Nat.le_of_ble_eq_true rfl) dX3_errorOfConflict_62 ?_
                have h65 := bZ_le (hasB (gPh S j.toNat k) a)
                refine g_if_eq X dX3_errorOfConflict_65 (tgt := 81) (by decide) (by omega) (fun c65 => ?_) (fun c65 => ?_)
                · refine g_iconst X dX3_errorOfConflict_81 ?_
                  exact join_82.out 0 _ (by grind [bZ, tgK]) (lv_sub hl [0, 1, 2, 3, 4, 5, 6, 7] rfl)
                · refine g_iload X dX3_errorOfConflict_68 hl 0 rfl ?_
                  refine g_iload_n X dX3_errorOfConflict_70 rfl hl 6 rfl ?_
                  refine g_pS X hk (As := [.int (iI (gPh S j.toNat k)), .int (iI b)]) (rest := []) (m_has l E (gPh S j.toNat k) b s.heap) 2 (lw_S q713 q714 q48 q715) (by decide +kernel) ⟨⟨Nat.le_of_ble_eq_true rfl, Nat.le_of_ble_eq_true rfl⟩, Nat.le_of_ble_eq_true rfl, Nat.le_of_ble_eq_true rfl⟩ rfl rfl hl.1 (Nat.le_of_ble_eq_true rfl) dX3_errorOfConflict_71 ?_
                  have h74 := bZ_le (hasB (gPh S j.toNat k) b)
                  refine g_if_eq X dX3_errorOfConflict_74 (tgt := 81) (by decide) (by omega) (fun c74 => ?_) (fun c74 => ?_)
                  · refine g_iconst X dX3_errorOfConflict_81 ?_
                    exact join_82.out 0 _ (by grind [bZ, tgK]) (lv_sub hl [0, 1, 2, 3, 4, 5, 6, 7] rfl)
                  · refine g_iconst X dX3_errorOfConflict_77 ?_
                    refine g_goto X dX3_errorOfConflict_78 (tgt := 82) (by decide) ?_
                    exact join_82.out 1 _ (by grind [bZ, tgK]) (lv_sub hl [0, 1, 2, 3, 4, 5, 6, 7] rfl)
        exact loop_30.out (gNp S j.toNat + 1) 0 0 0 (by omega) (rfl) (rfl) (by omega) _ (lv_sub hl [0, 1, 2, 3, 4, 5, 6] rfl)
      · have hV : ¬ ((0 ≤ j ∧ j ≤ (gN S : Int) - 1) ∧ (0 ≤ a ∧ a ≤ 3) ∧ (0 ≤ b ∧ b ≤ 3)) := by grind [bZ]
        refine g_iconst X dX3_errorOfConflict_22 ?_
        exact g_iretP X (by unfold erC; rw [if_pos hV]) dX3_errorOfConflict_23
set_option maxHeartbeats 4000000 in
theorem m_isPhase (l : Launch) (E : EP) (am : Nat → Nat) (S : GS) (M : MS) (H : Heap) (hM : MP E am M H) (hI : gI S) (hR : MR S M) (j p : Int) (hj : -2147483648 ≤ j ∧ j ≤ 2147483647) (hp : -2147483648 ≤ p ∧ p ≤ 2147483647) : gP l E yX3_isPhase cX3_isPhase 3 .boolean 2 H [.ref (am 0), .int (iI j), .int (iI p)] (bZ (decide ((0 ≤ j ∧ j ≤ (gN S : Int) - 1) ∧ (0 ≤ p ∧ p ≤ (gNp S j.toNat : Int) - 1)))) := by
  refine g_met (plainFor_of_name (by decide)) (Nat.le_of_ble_eq_true rfl) (fun P_ e_ s M_ bl mt_ c_ ls X _ hk hh hl => ?_)
  subst hh
  have X : gX P_ s M_ mt_ c_ cX3_isPhase 3 ([.ref (am 0), .int (iI j), .int (iI p)] : List Value).toArray RX3 (some .boolean) := X
  have hl : lv_has ls 3 [(0, .ref (am 0)), (1, .int (iI j)), (2, .int (iI p))] := hl
  have hn5 := hI.1.1
  have hnp : ∀ i, i < gN S → 1 ≤ gNp S i ∧ gNp S i ≤ 4 := fun i hi => (hI.2.2 i hi).1
  refine g_aload_n X dX3_isPhase_0 rfl hl 0 rfl ?_
  refine g_iload_n X dX3_isPhase_1 rfl hl 1 rfl ?_
  refine g_pV X hk (As := [.int (iI j)]) (rest := []) rfl (MP.O hM) (m_isJunction l E am S M s.heap hM hI hR j (by omega)) 1 (lw_V q706 q708 qs17 q48 q709) (by decide +kernel) ⟨⟨Nat.le_of_ble_eq_true rfl, Nat.le_of_ble_eq_true rfl⟩, Nat.le_of_ble_eq_true rfl, Nat.le_of_ble_eq_true rfl⟩ rfl rfl hl.1 (Nat.le_of_ble_eq_true rfl) dX3_isPhase_2 ?_
  have h5 := bZ_le (decide (0 ≤ j ∧ j ≤ (gN S : Int) - 1))
  refine g_if_eq X dX3_isPhase_5 (tgt := 28) (by decide) (by omega) (fun c5 => ?_) (fun c5 => ?_)
  · refine g_iconst X dX3_isPhase_28 ?_
    exact g_zretP X (by first | exact bZ_le _ | omega) (by grind [bZ]) dX3_isPhase_29
  · have hV : 0 ≤ j ∧ j ≤ (gN S : Int) - 1 := by grind [bZ]
    have hnpj := hnp j.toNat (by omega)
    refine g_iload_n X dX3_isPhase_8 rfl hl 2 rfl ?_
    refine g_iconst X dX3_isPhase_9 ?_
    refine g_aload_n X dX3_isPhase_10 rfl hl 0 rfl ?_
    refine g_get X hk (v := .ref (am 6)) in_X3 rfl (MP.O hM) 6 (by decide) q607 (rfl) dX3_isPhase_11 ?_
    refine g_iload_n X dX3_isPhase_14 rfl hl 1 rfl ?_
    refine g_ialdv X hk (j := j.toNat) (n := 5) (f := (M 6)) (v := (((gNp S j.toNat) : Nat) : Int)) (MP.I hM 6 rfl) (by omega) (by omega) (MR.np hR (by omega)) dX3_isPhase_15 ?_
    refine g_iconst X dX3_isPhase_16 ?_
    refine g_isub X dX3_isPhase_17 ?_
    refine g_pS X hk (As := [.int (iI p), .int (iI 0), .int (iI ((((gNp S j.toNat) : Nat) : Int) - 1))]) (rest := []) (m_in l E p 0 ((((gNp S j.toNat) : Nat) : Int) - 1) s.heap (by omega) (by omega) (by omega)) 3 (lw_S q691 q692 q48 q693) (by decide +kernel) ⟨⟨Nat.le_of_ble_eq_true rfl, Nat.le_of_ble_eq_true rfl⟩, Nat.le_of_ble_eq_true rfl, Nat.le_of_ble_eq_true rfl⟩ rfl rfl hl.1 (Nat.le_of_ble_eq_true rfl) dX3_isPhase_18 ?_
    have h21 := bZ_le (decide (0 ≤ p ∧ p ≤ (gNp S j.toNat : Int) - 1))
    refine g_if_eq X dX3_isPhase_21 (tgt := 28) (by decide) (by omega) (fun c21 => ?_) (fun c21 => ?_)
    · refine g_iconst X dX3_isPhase_28 ?_
      exact g_zretP X (by first | exact bZ_le _ | omega) (by grind [bZ]) dX3_isPhase_29
    · refine g_iconst X dX3_isPhase_24 ?_
      refine g_goto X dX3_isPhase_25 (tgt := 29) (by decide) ?_
      exact g_zretP X (by first | exact bZ_le _ | omega) (by grind [bZ]) dX3_isPhase_29
set_option maxHeartbeats 4000000 in
theorem m_isBreach (l : Launch) (E : EP) (am : Nat → Nat) (S : GS) (M : MS) (H : Heap) (hM : MP E am M H) (hI : gI S) (hR : MR S M) (j : Nat) (hj : j < gN S) (t : Int) (ht : 0 ≤ t ∧ t ≤ 1000) (hMI : mI M) (hL : 0 ≤ lft S j) (hPl : mPl S M j) : gP l E yX3_isBreach cX3_isBreach 6 .boolean 4 H [.ref (am 0), .int (iI ((j : Nat) : Int)), .int (iI t)] (bZ (brK S j ((t - gOff S j) % gCyc S) 16)) := by
  refine g_met (plainFor_of_name (by decide)) (Nat.le_of_ble_eq_true rfl) (fun P_ e_ s M_ bl mt_ c_ ls X _ hk hh hl => ?_)
  subst hh
  have X : gX P_ s M_ mt_ c_ cX3_isBreach 6 ([.ref (am 0), .int (iI ((j : Nat) : Int)), .int (iI t)] : List Value).toArray RX3 (some .boolean) := X
  have hl : lv_has ls 6 [(0, .ref (am 0)), (1, .int (iI ((j : Nat) : Int))), (2, .int (iI t))] := hl
  have hn5 := hI.1.1
  have hnp := (hI.2.2 j hj).1
  refine g_iconst X dX3_isBreach_0 ?_
  refine g_istore_n (lv' := [(3, .int (iI 0)), (0, .ref (am 0)), (1, .int (iI ((j : Nat) : Int))), (2, .int (iI t))]) X dX3_isBreach_1 rfl hl (by decide) rfl (fun ls hl => ?_)
  have loop_2 : gHide (∀ (n_ : Nat) (k : Nat) (v3 : Int), 17 ≤ k + n_ → v3 = ((k : Nat) : Int) → (k ≤ 16) → (brK S j ((t - gOff S j) % gCyc S) k = false) → ∀ (ls : Array Slot), lv_has ls 6 [(3, .int (iI v3)), (0, .ref (am 0)), (1, .int (iI ((j : Nat) : Int))), (2, .int (iI t))] → W P_ l e_ (gR 4 0 0) s M_ ([.ref (am 0), .int (iI ((j : Nat) : Int)), .int (iI t)] : List Value).toArray bl mt_ c_ s.heap [] 0 0 (MQ bl (QcRead (iI (bZ (brK S j ((t - gOff S j) % gCyc S) 16)))) ([.ref (am 0), .int (iI ((j : Nat) : Int)), .int (iI t)] : List Value).toArray s 0 0 (fun _ => False)) (F0 M_ 2 ls [])) := by
    intro n_
    induction n_ with
    | zero => intro k v3 hb_ e_v3 hkb hA ls hl; exact absurd hb_ (by omega)
    | succ n_ ih_2 =>
      replace ih_2 := gHide.mk ih_2
      intro k v3 hb_ e_v3 hkb hA ls hl
      subst e_v3
      have hl : lv_has ls 6 [(3, .int (iI ((k : Nat) : Int))), (0, .ref (am 0)), (1, .int (iI ((j : Nat) : Int))), (2, .int (iI t))] := hl
      refine g_iload_n X dX3_isBreach_2 rfl hl 0 rfl ?_
      refine g_bipush X dX3_isBreach_3 rfl ?_
      refine g_icmp_ge X dX3_isBreach_5 (tgt := 74) (by decide) (by omega) (fun c5 => ?_) (fun c5 => ?_)
      · refine g_iconst X dX3_isBreach_74 ?_
        exact g_zretP X (by first | exact bZ_le _ | omega) (by rw [show (16 : Nat) = k by omega, hA]; rfl) dX3_isBreach_75
      · refine g_aload_n X dX3_isBreach_8 rfl hl 1 rfl ?_
        refine g_get X hk (v := .ref (am 4)) in_X3 rfl (MP.O hM) 4 (by decide) q605 (rfl) dX3_isBreach_9 ?_
        refine g_bipush X dX3_isBreach_12 rfl ?_
        refine g_iload_n X dX3_isBreach_14 rfl hl 2 rfl ?_
        refine g_imul X dX3_isBreach_15 ?_
        refine g_iload_n X dX3_isBreach_16 rfl hl 0 rfl ?_
        refine g_iadd X dX3_isBreach_17 ?_
        refine g_ialdv X hk (j := ((16 * j) + k)) (n := 80) (f := (M 4)) (v := (gCf S j k)) (MP.I hM 4 rfl) (by omega) (by omega) (MR.cf hR hj (by omega)) dX3_isBreach_18 ?_
        refine g_istore (lv' := [(4, .int (iI (gCf S j k))), (3, .int (iI ((k : Nat) : Int))), (0, .ref (am 0)), (1, .int (iI ((j : Nat) : Int))), (2, .int (iI t))]) X dX3_isBreach_19 hl (by decide) rfl (fun ls hl => ?_)
        refine g_iconst X dX3_isBreach_21 ?_
        refine g_istore (lv' := [(5, .int (iI 0)), (4, .int (iI (gCf S j k))), (3, .int (iI ((k : Nat) : Int))), (0, .ref (am 0)), (1, .int (iI ((j : Nat) : Int))), (2, .int (iI t))]) X dX3_isBreach_22 hl (by decide) rfl (fun ls hl => ?_)
        have loop_24 : gHide (∀ (n_ : Nat) (i : Nat) (v5 : Int), 12 ≤ i + n_ → v5 = ((i : Nat) : Int) → (i ≤ 11 ∧ (i : Int) ≤ gCf S j k + 1 ∨ i = 0) → (brI S j k ((t - gOff S j) % gCyc S) i = false) → ∀ (ls : Array Slot), lv_has ls 6 [(5, .int (iI v5)), (4, .int (iI (gCf S j k))), (3, .int (iI ((k : Nat) : Int))), (0, .ref (am 0)), (1, .int (iI ((j : Nat) : Int))), (2, .int (iI t))] → W P_ l e_ (gR 4 0 0) s M_ ([.ref (am 0), .int (iI ((j : Nat) : Int)), .int (iI t)] : List Value).toArray bl mt_ c_ s.heap [] 0 0 (MQ bl (QcRead (iI (bZ (brK S j ((t - gOff S j) % gCyc S) 16)))) ([.ref (am 0), .int (iI ((j : Nat) : Int)), .int (iI t)] : List Value).toArray s 0 0 (fun _ => False)) (F0 M_ 24 ls [])) := by
          intro n_
          induction n_ with
          | zero => intro i v5 hb_ e_v5 hib hB ls hl; exact absurd hb_ (by omega)
          | succ n_ ih_24 =>
            replace ih_24 := gHide.mk ih_24
            intro i v5 hb_ e_v5 hib hB ls hl
            subst e_v5
            have hl : lv_has ls 6 [(5, .int (iI ((i : Nat) : Int))), (4, .int (iI (gCf S j k))), (3, .int (iI ((k : Nat) : Int))), (0, .ref (am 0)), (1, .int (iI ((j : Nat) : Int))), (2, .int (iI t))] := hl
            have hck := (hI.2.2 j hj).2.1 k (by omega)
            refine g_iload X dX3_isBreach_24 hl 0 rfl ?_
            refine g_iload X dX3_isBreach_26 hl 1 rfl ?_
            refine g_icmp_gt X dX3_isBreach_28 (tgt := 68) (by decide) (by omega) (fun c28 => ?_) (fun c28 => ?_)
            · have hN : brK S j ((t - gOff S j) % gCyc S) (k + 1) = false := by
                show (_ || (gAtP S j ((k : Int) / 4) _ && brI S j k _ _)) = false
                rw [hA, Bool.false_or, Bool.and_eq_false_iff]
                first
                  | (right; rw [show (gCf S j k + 1).toNat = i by omega]; exact hB)
                  | (left; have : gAt S j ((k : Int) / 4) t = gAtP S j ((k : Int) / 4) ((t - gOff S j) % gCyc S) := rfl
                     rw [← this]; grind [bZ])
              refine g_iinc (lv' := [(3, .int (iI (((k : Nat) : Int) + 1))), (5, .int (iI ((i : Nat) : Int))), (4, .int (iI (gCf S j k))), (0, .ref (am 0)), (1, .int (iI ((j : Nat) : Int))), (2, .int (iI t))]) X dX3_isBreach_68 hl (k := 2) rfl (by decide) rfl (fun ls hl => ?_)
              refine g_goto X dX3_isBreach_71 (tgt := 2) (by decide) ?_
              exact ih_2.out (k + 1) (((k : Nat) : Int) + 1) (by omega) (by omega) (by omega) hN _ (lv_sub hl [0, 3, 4, 5] rfl)
            · refine g_aload_n X dX3_isBreach_31 rfl hl 3 rfl ?_
              refine g_iload_n X dX3_isBreach_32 rfl hl 4 rfl ?_
              refine g_iload_n X dX3_isBreach_33 rfl hl 2 rfl ?_
              refine g_iconst X dX3_isBreach_34 ?_
              refine g_idivN X dX3_isBreach_35 (by omega) ?_
              refine g_iload_n X dX3_isBreach_36 rfl hl 5 rfl ?_
              refine g_iconst X dX3_isBreach_37 ?_
              refine g_pV X hk (As := [.int (iI ((j : Nat) : Int)), .int (iI (((k : Nat) : Int) / 4)), .int (iI t), .int (iI 0)]) (rest := []) rfl (MP.O hM) (m_isGreenF l E am S M s.heap hM hI hR j hj (((k : Nat) : Int) / 4) t (by omega) hMI hL hPl) 4 (lw_V q787 q789 qs30 q48 q790) (by decide +kernel) ⟨⟨Nat.le_of_ble_eq_true rfl, Nat.le_of_ble_eq_true rfl⟩, Nat.le_of_ble_eq_true rfl, Nat.le_of_ble_eq_true rfl⟩ rfl rfl hl.1 (Nat.le_of_ble_eq_true rfl) dX3_isBreach_38 ?_
              have h41 := bZ_le (gAt S j (((k : Nat) : Int) / 4) t)
              refine g_if_eq X dX3_isBreach_41 (tgt := 68) (by decide) (by omega) (fun c41 => ?_) (fun c41 => ?_)
              · have hN : brK S j ((t - gOff S j) % gCyc S) (k + 1) = false := by
                  show (_ || (gAtP S j ((k : Int) / 4) _ && brI S j k _ _)) = false
                  rw [hA, Bool.false_or, Bool.and_eq_false_iff]
                  first
                    | (right; rw [show (gCf S j k + 1).toNat = i by omega]; exact hB)
                    | (left; have : gAt S j ((k : Int) / 4) t = gAtP S j ((k : Int) / 4) ((t - gOff S j) % gCyc S) := rfl
                       rw [← this]; grind [bZ])
                refine g_iinc (lv' := [(3, .int (iI (((k : Nat) : Int) + 1))), (5, .int (iI ((i : Nat) : Int))), (4, .int (iI (gCf S j k))), (0, .ref (am 0)), (1, .int (iI ((j : Nat) : Int))), (2, .int (iI t))]) X dX3_isBreach_68 hl (k := 2) rfl (by decide) rfl (fun ls hl => ?_)
                refine g_goto X dX3_isBreach_71 (tgt := 2) (by decide) ?_
                exact ih_2.out (k + 1) (((k : Nat) : Int) + 1) (by omega) (by omega) (by omega) hN _ (lv_sub hl [0, 3, 4, 5] rfl)
              · refine g_aload_n X dX3_isBreach_44 rfl hl 3 rfl ?_
                refine g_iload_n X dX3_isBreach_45 rfl hl 4 rfl ?_
                refine g_iload_n X dX3_isBreach_46 rfl hl 2 rfl ?_
                refine g_iconst X dX3_isBreach_47 ?_
                refine g_iremN X dX3_isBreach_48 (by omega) ?_
                refine g_iload_n X dX3_isBreach_49 rfl hl 5 rfl ?_
                refine g_iload X dX3_isBreach_50 hl 0 rfl ?_
                refine g_iadd X dX3_isBreach_52 ?_
                refine g_iconst X dX3_isBreach_53 ?_
                refine g_pV X hk (As := [.int (iI ((j : Nat) : Int)), .int (iI (((k : Nat) : Int) % 4)), .int (iI (t + ((i : Nat) : Int))), .int (iI 0)]) (rest := []) rfl (MP.O hM) (m_isGreenF l E am S M s.heap hM hI hR j hj (((k : Nat) : Int) % 4) (t + ((i : Nat) : Int)) (by omega) hMI hL hPl) 4 (lw_V q787 q789 qs30 q48 q790) (by decide +kernel) ⟨⟨Nat.le_of_ble_eq_true rfl, Nat.le_of_ble_eq_true rfl⟩, Nat.le_of_ble_eq_true rfl, Nat.le_of_ble_eq_true rfl⟩ rfl rfl hl.1 (Nat.le_of_ble_eq_true rfl) dX3_isBreach_54 ?_
                have h57 := bZ_le (gAt S j (((k : Nat) : Int) % 4) (t + ((i : Nat) : Int)))
                refine g_if_eq X dX3_isBreach_57 (tgt := 62) (by decide) (by omega) (fun c57 => ?_) (fun c57 => ?_)
                · have hM2 : brI S j k ((t - gOff S j) % gCyc S) (i + 1) = false := by
                    show (_ || gAtP S j ((k : Int) % 4) _) = false
                    rw [← gAt_pl, hB]
                    grind [bZ]
                  refine g_iinc (lv' := [(5, .int (iI (((i : Nat) : Int) + 1))), (4, .int (iI (gCf S j k))), (3, .int (iI ((k : Nat) : Int))), (0, .ref (am 0)), (1, .int (iI ((j : Nat) : Int))), (2, .int (iI t))]) X dX3_isBreach_62 hl (k := 0) rfl (by decide) rfl (fun ls hl => ?_)
                  refine g_goto X dX3_isBreach_65 (tgt := 24) (by decide) ?_
                  exact ih_24.out (i + 1) (((i : Nat) : Int) + 1) (by omega) (by omega) (by omega) hM2 _ (lv_sub hl [0, 1, 2, 3, 4, 5] rfl)
                · have hT : brK S j ((t - gOff S j) % gCyc S) (k + 1) = true := by
                    have h1 : gAtP S j ((k : Int) / 4) ((t - gOff S j) % gCyc S) = true := by
                      have : gAt S j ((k : Int) / 4) t = gAtP S j ((k : Int) / 4) ((t - gOff S j) % gCyc S) := rfl
                      rw [← this]
                      grind [bZ]
                    have h2 : brI S j k ((t - gOff S j) % gCyc S) (i + 1) = true := by
                      show (_ || gAtP S j ((k : Int) % 4) _) = true
                      rw [← gAt_pl, Bool.or_eq_true]
                      right
                      grind [bZ]
                    have h3 := brI_st h2 ((gCf S j k + 1).toNat - (i + 1))
                    rw [show i + 1 + ((gCf S j k + 1).toNat - (i + 1)) = (gCf S j k + 1).toNat by omega] at h3
                    show (_ || (gAtP S j ((k : Int) / 4) _ && brI S j k _ _)) = true
                    rw [h1, h3]
                    simp
                  refine g_iconst X dX3_isBreach_60 ?_
                  exact g_zretP X (by first | exact bZ_le _ | omega) (by have h7 := brK_st hT (15 - k); rw [show k + 1 + (15 - k) = 16 by omega] at h7; rw [h7]; rfl) dX3_isBreach_61
        exact loop_24.out 12 0 0 (by omega) (rfl) (by omega) rfl _ (lv_sub hl [0, 1, 2, 3, 4, 5] rfl)
  exact loop_2.out 17 0 0 (by omega) (rfl) (by omega) rfl _ (lv_sub hl [0, 1, 2, 3] rfl)
set_option maxHeartbeats 4000000 in
theorem m_heldOf (l : Launch) (E : EP) (am : Nat → Nat) (M : MS) (H : Heap) (hM : MP E am M H) (j : Nat) (hj : j < 4) : gP l E yX3_heldOf cX3_heldOf 2 .int 0 H [.ref (am 0), .int (iI ((j : Nat) : Int))] (M 20 j + M 18 (j + 1)) := by
  refine g_met (plainFor_of_name (by decide)) (Nat.le_of_ble_eq_true rfl) (fun P_ e_ s M_ bl mt_ c_ ls X _ hk hh hl => ?_)
  subst hh
  have X : gX P_ s M_ mt_ c_ cX3_heldOf 2 ([.ref (am 0), .int (iI ((j : Nat) : Int))] : List Value).toArray RX3 (some .int) := X
  have hl : lv_has ls 2 [(0, .ref (am 0)), (1, .int (iI ((j : Nat) : Int)))] := hl
  refine g_aload_n X dX3_heldOf_0 rfl hl 0 rfl ?_
  refine g_get X hk (v := .ref (am 20)) in_X3 rfl (MP.O hM) 20 (by decide) q621 (rfl) dX3_heldOf_1 ?_
  refine g_iload_n X dX3_heldOf_4 rfl hl 1 rfl ?_
  refine g_ialdv X hk (j := j) (n := 4) (f := (M 20)) (v := ((M 20) j)) (MP.I hM 20 rfl) (rfl) (by omega) (rfl) dX3_heldOf_5 ?_
  refine g_aload_n X dX3_heldOf_6 rfl hl 0 rfl ?_
  refine g_get X hk (v := .ref (am 18)) in_X3 rfl (MP.O hM) 18 (by decide) q619 (rfl) dX3_heldOf_7 ?_
  refine g_iload_n X dX3_heldOf_10 rfl hl 1 rfl ?_
  refine g_iconst X dX3_heldOf_11 ?_
  refine g_iadd X dX3_heldOf_12 ?_
  refine g_ialdv X hk (j := (j + 1)) (n := 5) (f := (M 18)) (v := ((M 18) (j + 1))) (MP.I hM 18 rfl) (by omega) (by omega) (rfl) dX3_heldOf_13 ?_
  refine g_iadd X dX3_heldOf_14 ?_
  exact g_iretP X (rfl) dX3_heldOf_15
set_option maxHeartbeats 4000000 in
theorem m_phaseOf (l : Launch) (E : EP) (am : Nat → Nat) (S : GS) (M : MS) (H : Heap) (hM : MP E am M H) (hI : gI S) (hR : MR S M) (j : Nat) (hj : j < gN S) (v : Int) : gP l E yX3_phaseOf cX3_phaseOf 4 .int 1 H [.ref (am 0), .int (iI ((j : Nat) : Int)), .int (iI v)] (if low S j v < gNp S j then (low S j v : Int) else -1) := by
  refine g_met (plainFor_of_name (by decide)) (Nat.le_of_ble_eq_true rfl) (fun P_ e_ s M_ bl mt_ c_ ls X _ hk hh hl => ?_)
  subst hh
  have X : gX P_ s M_ mt_ c_ cX3_phaseOf 4 ([.ref (am 0), .int (iI ((j : Nat) : Int)), .int (iI v)] : List Value).toArray RX3 (some .int) := X
  have hl : lv_has ls 4 [(0, .ref (am 0)), (1, .int (iI ((j : Nat) : Int))), (2, .int (iI v))] := hl
  have hn5 := hI.1.1
  have hnp := (hI.2.2 j hj).1
  refine g_iconst X dX3_phaseOf_0 ?_
  refine g_istore_n (lv' := [(3, .int (iI 0)), (0, .ref (am 0)), (1, .int (iI ((j : Nat) : Int))), (2, .int (iI v))]) X dX3_phaseOf_1 rfl hl (by decide) rfl (fun ls hl => ?_)
  have loop_2 : gHide (∀ (n_ : Nat) (k : Nat) (v3 : Int), gNp S j + 1 ≤ k + n_ → v3 = ((k : Nat) : Int) → (k ≤ gNp S j) → (low S j v = lowK S j v (gNp S j - k) k) → ∀ (ls : Array Slot), lv_has ls 4 [(3, .int (iI v3)), (0, .ref (am 0)), (1, .int (iI ((j : Nat) : Int))), (2, .int (iI v))] → W P_ l e_ (gR 1 0 0) s M_ ([.ref (am 0), .int (iI ((j : Nat) : Int)), .int (iI v)] : List Value).toArray bl mt_ c_ s.heap [] 0 0 (MQ bl (QcRead (iI (if low S j v < gNp S j then (low S j v : Int) else -1))) ([.ref (am 0), .int (iI ((j : Nat) : Int)), .int (iI v)] : List Value).toArray s 0 0 (fun _ => False)) (F0 M_ 2 ls [])) := by
    intro n_
    induction n_ with
    | zero => intro k v3 hb_ e_v3 hkb hA ls hl; exact absurd hb_ (by omega)
    | succ n_ ih_2 =>
      replace ih_2 := gHide.mk ih_2
      intro k v3 hb_ e_v3 hkb hA ls hl
      subst e_v3
      have hl : lv_has ls 4 [(3, .int (iI ((k : Nat) : Int))), (0, .ref (am 0)), (1, .int (iI ((j : Nat) : Int))), (2, .int (iI v))] := hl
      refine g_iload_n X dX3_phaseOf_2 rfl hl 0 rfl ?_
      refine g_aload_n X dX3_phaseOf_3 rfl hl 1 rfl ?_
      refine g_get X hk (v := .ref (am 6)) in_X3 rfl (MP.O hM) 6 (by decide) q607 (rfl) dX3_phaseOf_4 ?_
      refine g_iload_n X dX3_phaseOf_7 rfl hl 2 rfl ?_
      refine g_ialdv X hk (j := j) (n := 5) (f := (M 6)) (v := (((gNp S j) : Nat) : Int)) (MP.I hM 6 rfl) (rfl) (by omega) (MR.np hR hj) dX3_phaseOf_8 ?_
      refine g_icmp_ge X dX3_phaseOf_9 (tgt := 37) (by decide) (by omega) (fun c9 => ?_) (fun c9 => ?_)
      · have hA2 : low S j v = k := by rw [hA, show gNp S j - k = 0 by omega]; rfl
        refine g_iconst X dX3_phaseOf_37 ?_
        exact g_iretP X (by rw [hA2, if_neg (by omega)]) dX3_phaseOf_38
      · refine g_aload_n X dX3_phaseOf_12 rfl hl 1 rfl ?_
        refine g_get X hk (v := .ref (am 5)) in_X3 rfl (MP.O hM) 5 (by decide) q606 (rfl) dX3_phaseOf_13 ?_
        refine g_iconst X dX3_phaseOf_16 ?_
        refine g_iload_n X dX3_phaseOf_17 rfl hl 2 rfl ?_
        refine g_imul X dX3_phaseOf_18 ?_
        refine g_iload_n X dX3_phaseOf_19 rfl hl 0 rfl ?_
        refine g_iadd X dX3_phaseOf_20 ?_
        refine g_ialdv X hk (j := ((4 * j) + k)) (n := 20) (f := (M 5)) (v := (gPh S j k)) (MP.I hM 5 rfl) (by omega) (by omega) (MR.ph hR hj (by omega)) dX3_phaseOf_21 ?_
        refine g_iload_n X dX3_phaseOf_22 rfl hl 3 rfl ?_
        refine g_pS X hk (As := [.int (iI (gPh S j k)), .int (iI v)]) (rest := []) (m_has l E (gPh S j k) v s.heap) 2 (lw_S q713 q714 q48 q715) (by decide +kernel) ⟨⟨Nat.le_of_ble_eq_true rfl, Nat.le_of_ble_eq_true rfl⟩, Nat.le_of_ble_eq_true rfl, Nat.le_of_ble_eq_true rfl⟩ rfl rfl hl.1 (Nat.le_of_ble_eq_true rfl) dX3_phaseOf_23 ?_
        have h26 := bZ_le (hasB (gPh S j k) v)
        refine g_if_eq X dX3_phaseOf_26 (tgt := 31) (by decide) (by omega) (fun c26 => ?_) (fun c26 => ?_)
        · refine g_iinc (lv' := [(3, .int (iI (((k : Nat) : Int) + 1))), (0, .ref (am 0)), (1, .int (iI ((j : Nat) : Int))), (2, .int (iI v))]) X dX3_phaseOf_31 hl (k := 0) rfl (by decide) rfl (fun ls hl => ?_)
          refine g_goto X dX3_phaseOf_34 (tgt := 2) (by decide) ?_
          exact ih_2.out (k + 1) (((k : Nat) : Int) + 1) (by omega) (by omega) (by omega) (by rw [hA, lowK_step (by omega), if_neg (by grind [bZ])]) _ (lv_sub hl [0, 1, 2, 3] rfl)
        · have hA2 : low S j v = k := by rw [hA, lowK_step (by omega), if_pos (by grind [bZ])]
          refine g_iload_n X dX3_phaseOf_29 rfl hl 0 rfl ?_
          exact g_iretP X (by rw [hA2, if_pos (by omega)]) dX3_phaseOf_30
  exact loop_2.out (gNp S j + 1) 0 0 (by omega) (rfl) (by omega) rfl _ (lv_sub hl [0, 1, 2, 3] rfl)
set_option maxHeartbeats 4000000 in
theorem m_least (l : Launch) (E : EP) (a b : Int) (H : Heap) (ha : -2147483648 ≤ a ∧ a ≤ 2147483647) (hb : -2147483648 ≤ b ∧ b ≤ 2147483647) : gP l E yX3_least cX3_least 2 .int 0 H [.int (iI a), .int (iI b)] (min a b) := by
  refine g_met (plainFor_of_name (by decide)) (Nat.le_of_ble_eq_true rfl) (fun P_ e_ s M_ bl mt_ c_ ls X _ hk hh hl => ?_)
  subst hh
  have X : gX P_ s M_ mt_ c_ cX3_least 2 ([.int (iI a), .int (iI b)] : List Value).toArray RX3 (some .int) := X
  have hl : lv_has ls 2 [(0, .int (iI a)), (1, .int (iI b))] := hl
  refine g_iload_n X dX3_least_0 rfl hl 0 rfl ?_
  refine g_iload_n X dX3_least_1 rfl hl 1 rfl ?_
  refine g_icmp_ge X dX3_least_2 (tgt := 9) (by decide) (by omega) (fun c2 => ?_) (fun c2 => ?_)
  · refine g_iload_n X dX3_least_9 rfl hl 1 rfl ?_
    exact g_iretP X (by omega) dX3_least_10
  · refine g_iload_n X dX3_least_5 rfl hl 0 rfl ?_
    refine g_goto X dX3_least_6 (tgt := 10) (by decide) ?_
    exact g_iretP X (by omega) dX3_least_10
set_option maxHeartbeats 4000000 in
theorem m_above (l : Launch) (E : EP) (am : Nat → Nat) (S : GS) (M : MS) (H : Heap) (hM : MP E am M H) (hI : gI S) (hR : MR S M) (j : Nat) (hj : j < gN S) (p : Nat) (hp : p < gNp S j) (hPl : mPl S M j) : gP l E yX3_above cX3_above 3 .int 2 H [.ref (am 0), .int (iI ((j : Nat) : Int)), .int (iI ((p : Nat) : Int))] (grn S j p - lst S j p) := by
  refine g_met (plainFor_of_name (by decide)) (Nat.le_of_ble_eq_true rfl) (fun P_ e_ s M_ bl mt_ c_ ls X _ hk hh hl => ?_)
  subst hh
  have X : gX P_ s M_ mt_ c_ cX3_above 3 ([.ref (am 0), .int (iI ((j : Nat) : Int)), .int (iI ((p : Nat) : Int))] : List Value).toArray RX3 (some .int) := X
  have hl : lv_has ls 3 [(0, .ref (am 0)), (1, .int (iI ((j : Nat) : Int))), (2, .int (iI ((p : Nat) : Int)))] := hl
  have hn5 := hI.1.1
  have hnp := (hI.2.2 j hj).1
  refine g_aload_n X dX3_above_0 rfl hl 0 rfl ?_
  refine g_get X hk (v := .ref (am 11)) in_X3 rfl (MP.O hM) 11 (by decide) q612 (rfl) dX3_above_1 ?_
  refine g_iconst X dX3_above_4 ?_
  refine g_iload_n X dX3_above_5 rfl hl 1 rfl ?_
  refine g_imul X dX3_above_6 ?_
  refine g_iload_n X dX3_above_7 rfl hl 2 rfl ?_
  refine g_iadd X dX3_above_8 ?_
  refine g_ialdv X hk (j := ((4 * j) + p)) (n := 20) (f := (M 11)) (v := (grn S j p)) (MP.I hM 11 rfl) (by omega) (by omega) ((hPl p (by omega)).1) dX3_above_9 ?_
  refine g_aload_n X dX3_above_10 rfl hl 0 rfl ?_
  refine g_iload_n X dX3_above_11 rfl hl 1 rfl ?_
  refine g_iload_n X dX3_above_12 rfl hl 2 rfl ?_
  refine g_pV X hk (As := [.int (iI ((j : Nat) : Int)), .int (iI ((p : Nat) : Int))]) (rest := [.int (iI (grn S j p))]) rfl (MP.O hM) (m_leastOf l E am S M s.heap hM hI hR j hj p (by omega)) 2 (lw_V q763 q765 qs24 q48 q766) (by decide +kernel) ⟨⟨Nat.le_of_ble_eq_true rfl, Nat.le_of_ble_eq_true rfl⟩, Nat.le_of_ble_eq_true rfl, Nat.le_of_ble_eq_true rfl⟩ rfl rfl hl.1 (Nat.le_of_ble_eq_true rfl) dX3_above_13 ?_
  refine g_isub X dX3_above_16 ?_
  exact g_iretP X (rfl) dX3_above_17
set_option maxHeartbeats 4000000 in
theorem m_behind (l : Launch) (E : EP) (am : Nat → Nat) (S : GS) (M : MS) (H : Heap) (hM : MP E am M H) (hI : gI S) (hR : MR S M) (j : Nat) (hj : j < gN S) (p : Nat) (hp : p < gNp S j) (hph : phA (grn S j) (clr S j) (gNp S j) 0 ((gNow S - gOff S j) % gCyc S) = p) (hMI : mI M) (hL : 0 ≤ lft S j) (hPl : mPl S M j) : gP l E yX3_behind cX3_behind 4 .int 4 H [.ref (am 0), .int (iI ((j : Nat) : Int)), .int (iI ((p : Nat) : Int))] (begK (grn S j) (clr S j) p + grn S j p - ((gNow S - gOff S j) % gCyc S) - 1) := by
  refine g_met (plainFor_of_name (by decide)) (Nat.le_of_ble_eq_true rfl) (fun P_ e_ s M_ bl mt_ c_ ls X _ hk hh hl => ?_)
  subst hh
  have X : gX P_ s M_ mt_ c_ cX3_behind 4 ([.ref (am 0), .int (iI ((j : Nat) : Int)), .int (iI ((p : Nat) : Int))] : List Value).toArray RX3 (some .int) := X
  have hl : lv_has ls 4 [(0, .ref (am 0)), (1, .int (iI ((j : Nat) : Int))), (2, .int (iI ((p : Nat) : Int)))] := hl
  have hn5 := hI.1.1
  have hnp := (hI.2.2 j hj).1
  have hc := hI.2.1
  have hnow := hI.1.2.2
  have ho := (hI.2.2 j hj).2.2.2.2.1
  have hgc : ∀ q, q < gNp S j → (0 ≤ grn S j q ∧ grn S j q ≤ 1000) ∧ 0 ≤ clr S j q ∧ clr S j q ≤ 1000 := fun q hq => by
    have h1 := grn_b hI hj hL hq
    have h2 := clr_b (hI.2.2 j hj) q
    omega
  have hgc2 : ∀ q, q < gNp S j → 0 ≤ grn S j q ∧ 0 ≤ clr S j q := fun q hq => ⟨(hgc q hq).1.1, (hgc q hq).2.1⟩
  have hm := em_b (gNow S - gOff S j) (gCyc S) hc.1
  have hin := phA_is hgc2 hm.1 hph
  have hgp := hgc p hp
  have hb0 := begK_b hgc2 p (by omega)
  have hbe : begK (grn S j) (clr S j) p + grn S j p ≤ gCyc S := by
    have h1 := begK_grn hI hj hL
    have h2 := begK_mono hgc2 (p + 1) (gNp S j - (p + 1)) (by omega)
    rw [show p + 1 + (gNp S j - (p + 1)) = gNp S j by omega, h1] at h2
    have h3 : begK (grn S j) (clr S j) (p + 1) = begK (grn S j) (clr S j) p + (grn S j p + clr S j p) := rfl
    omega
  have hph2 : ∀ i : Nat, (i : Int) < begK (grn S j) (clr S j) p + grn S j p - (gNow S - gOff S j) % gCyc S - 1 → mPh S (grn S j) (clr S j) M j (gNow S + (i : Int) + 1) false = (p : Int) := by
    intro i hi
    rw [mPh_f]
    have h1 : (gNow S + (i : Int) + 1 - gOff S j) % gCyc S = (gNow S - gOff S j) % gCyc S + i + 1 := by
      have h2 : gNow S + (i : Int) + 1 - gOff S j = (gNow S - gOff S j) + ((i : Int) + 1) := by omega
      rw [h2, ← Int.emod_add_emod, Int.emod_eq_of_lt (by omega) (by omega)]
      omega
    rw [h1]
    exact phA_in hgc2 hp (by omega) (by omega)
  have hcy : ∀ i : Nat, (i : Int) < begK (grn S j) (clr S j) p + grn S j p - (gNow S - gOff S j) % gCyc S - 1 → (gNow S + (i : Int) + 1 - gOff S j) / gCyc S = (gNow S - gOff S j) / gCyc S := by
    intro i hi
    have h2 : gNow S + (i : Int) + 1 - gOff S j = (gNow S - gOff S j) % gCyc S + ((i : Int) + 1) + gCyc S * ((gNow S - gOff S j) / gCyc S) := by
      have := Int.emod_def (gNow S - gOff S j) (gCyc S)
      omega
    rw [h2, Int.add_mul_ediv_left _ _ (by omega), Int.ediv_eq_zero_of_lt (by omega) (by omega)]
    omega
  have hstop : ∀ i : Nat, (i : Int) = begK (grn S j) (clr S j) p + grn S j p - (gNow S - gOff S j) % gCyc S - 1 → mPh S (grn S j) (clr S j) M j (gNow S + (i : Int) + 1) false = (p : Int) → (i : Int) < grn S j p - 1 → ¬ (gNow S + (i : Int) + 1 - gOff S j) / gCyc S = (gNow S - gOff S j) / gCyc S := by
    intro i hi h1 h2 h3
    rw [mPh_f] at h1
    have h4 := Int.emod_def (gNow S + (i : Int) + 1 - gOff S j) (gCyc S)
    have h5 := Int.emod_def (gNow S - gOff S j) (gCyc S)
    rw [h3] at h4
    have h6 : (gNow S + (i : Int) + 1 - gOff S j) % gCyc S = begK (grn S j) (clr S j) p + grn S j p := by omega
    rw [h6] at h1
    have := phA_is hgc2 (by omega) h1
    omega
  have hrn : ∀ t : Int, mPh S (grn S j) (clr S j) M j t false = -1 ∨ (0 ≤ mPh S (grn S j) (clr S j) M j t false ∧ mPh S (grn S j) (clr S j) M j t false < gNp S j) := fun t => by unfold mPh; have := phA_rng (mAdj (grn S j) M j (mcal S M j t false)) (clr S j) (gNp S j) 0 ((t - gOff S j) % gCyc S); omega
  have hfb : ∀ t : Int, (-1000090 ≤ t ∧ t ≤ 1000090) → -1000090 ≤ t / gCyc S ∧ t / gCyc S ≤ 1000090 := fun t ht => fl_b (by omega) (by omega)
  refine g_iconst X dX3_behind_0 ?_
  refine g_istore_n (lv' := [(3, .int (iI 0)), (0, .ref (am 0)), (1, .int (iI ((j : Nat) : Int))), (2, .int (iI ((p : Nat) : Int)))]) X dX3_behind_1 rfl hl (by decide) rfl (fun ls hl => ?_)
  have loop_2 : gHide (∀ (n_ : Nat) (i : Nat) (v3 : Int), 100 ≤ i + n_ → v3 = ((i : Nat) : Int) → ((i : Int) ≤ (begK (grn S j) (clr S j) p + grn S j p - ((gNow S - gOff S j) % gCyc S) - 1)) → ∀ (ls : Array Slot), lv_has ls 4 [(3, .int (iI v3)), (0, .ref (am 0)), (1, .int (iI ((j : Nat) : Int))), (2, .int (iI ((p : Nat) : Int)))] → W P_ l e_ (gR 4 0 0) s M_ ([.ref (am 0), .int (iI ((j : Nat) : Int)), .int (iI ((p : Nat) : Int))] : List Value).toArray bl mt_ c_ s.heap [] 0 0 (MQ bl (QcRead (iI (begK (grn S j) (clr S j) p + grn S j p - ((gNow S - gOff S j) % gCyc S) - 1))) ([.ref (am 0), .int (iI ((j : Nat) : Int)), .int (iI ((p : Nat) : Int))] : List Value).toArray s 0 0 (fun _ => False)) (F0 M_ 2 ls [])) := by
    intro n_
    induction n_ with
    | zero => intro i v3 hb_ e_v3 hib ls hl; exact absurd hb_ (by omega)
    | succ n_ ih_2 =>
      replace ih_2 := gHide.mk ih_2
      intro i v3 hb_ e_v3 hib ls hl
      subst e_v3
      have hl : lv_has ls 4 [(3, .int (iI ((i : Nat) : Int))), (0, .ref (am 0)), (1, .int (iI ((j : Nat) : Int))), (2, .int (iI ((p : Nat) : Int)))] := hl
      have hg94 := (grn_b hI hj hL hp).2.2
      have hrni := hrn (gNow S + (i : Int) + 1)
      have hf1 := hfb (gNow S + (i : Int) + 1 - gOff S j) (by omega)
      have hf2 := hfb (gNow S - gOff S j) (by omega)
      refine g_aload_n X dX3_behind_2 rfl hl 1 rfl ?_
      refine g_iload_n X dX3_behind_3 rfl hl 2 rfl ?_
      refine g_aload_n X dX3_behind_4 rfl hl 1 rfl ?_
      refine g_get X hk (v := .int (iI (gNow S))) in_X3 rfl (MP.O hM) 14 (by decide) q615 (sI (MR.now hR)) dX3_behind_5 ?_
      refine g_iload_n X dX3_behind_8 rfl hl 0 rfl ?_
      refine g_iadd X dX3_behind_9 ?_
      refine g_iconst X dX3_behind_10 ?_
      refine g_iadd X dX3_behind_11 ?_
      refine g_iconst X dX3_behind_12 ?_
      refine g_pV X hk (As := [.int (iI ((j : Nat) : Int)), .int (iI (((gNow S) + ((i : Nat) : Int)) + 1)), .int (iI 0)]) (rest := []) rfl (MP.O hM) (m_phaseAt l E am S M s.heap hM hI hR j hj (((gNow S) + ((i : Nat) : Int)) + 1) (by omega) false hMI (grn S j) (clr S j) hPl hgc) 3 (lw_V q791 q793 qs31 q48 q794) (by decide +kernel) ⟨⟨Nat.le_of_ble_eq_true rfl, Nat.le_of_ble_eq_true rfl⟩, Nat.le_of_ble_eq_true rfl, Nat.le_of_ble_eq_true rfl⟩ rfl rfl hl.1 (Nat.le_of_ble_eq_true rfl) dX3_behind_13 ?_
      refine g_iload_n X dX3_behind_16 rfl hl 3 rfl ?_
      refine g_icmp_ne X dX3_behind_17 (tgt := 67) (by decide) (by omega) (fun c17 => ?_) (fun c17 => ?_)
      · refine g_iload_n X dX3_behind_67 rfl hl 0 rfl ?_
        exact g_iretP X (by have h1 := hph2 i; have h2 := hcy i; grind) dX3_behind_68
      · refine g_iload_n X dX3_behind_20 rfl hl 0 rfl ?_
        refine g_aload_n X dX3_behind_21 rfl hl 1 rfl ?_
        refine g_get X hk (v := .ref (am 11)) in_X3 rfl (MP.O hM) 11 (by decide) q612 (rfl) dX3_behind_22 ?_
        refine g_iconst X dX3_behind_25 ?_
        refine g_iload_n X dX3_behind_26 rfl hl 2 rfl ?_
        refine g_imul X dX3_behind_27 ?_
        refine g_iload_n X dX3_behind_28 rfl hl 3 rfl ?_
        refine g_iadd X dX3_behind_29 ?_
        refine g_ialdv X hk (j := ((4 * j) + p)) (n := 20) (f := (M 11)) (v := (grn S j p)) (MP.I hM 11 rfl) (by omega) (by omega) ((hPl p (by omega)).1) dX3_behind_30 ?_
        refine g_iconst X dX3_behind_31 ?_
        refine g_isub X dX3_behind_32 ?_
        refine g_icmp_ge X dX3_behind_33 (tgt := 67) (by decide) (by omega) (fun c33 => ?_) (fun c33 => ?_)
        · refine g_iload_n X dX3_behind_67 rfl hl 0 rfl ?_
          exact g_iretP X (by have h1 := hph2 i; have h2 := hcy i; grind) dX3_behind_68
        · refine g_aload_n X dX3_behind_36 rfl hl 1 rfl ?_
          refine g_iload_n X dX3_behind_37 rfl hl 2 rfl ?_
          refine g_aload_n X dX3_behind_38 rfl hl 1 rfl ?_
          refine g_get X hk (v := .int (iI (gNow S))) in_X3 rfl (MP.O hM) 14 (by decide) q615 (sI (MR.now hR)) dX3_behind_39 ?_
          refine g_iload_n X dX3_behind_42 rfl hl 0 rfl ?_
          refine g_iadd X dX3_behind_43 ?_
          refine g_iconst X dX3_behind_44 ?_
          refine g_iadd X dX3_behind_45 ?_
          refine g_pV X hk (As := [.int (iI ((j : Nat) : Int)), .int (iI (((gNow S) + ((i : Nat) : Int)) + 1))]) (rest := []) rfl (MP.O hM) (m_cycleOf l E am S M s.heap hM hI hR j hj (((gNow S) + ((i : Nat) : Int)) + 1) (by omega)) 2 (lw_V q799 q801 qs33 q48 q802) (by decide +kernel) ⟨⟨Nat.le_of_ble_eq_true rfl, Nat.le_of_ble_eq_true rfl⟩, Nat.le_of_ble_eq_true rfl, Nat.le_of_ble_eq_true rfl⟩ rfl rfl hl.1 (Nat.le_of_ble_eq_true rfl) dX3_behind_46 ?_
          refine g_aload_n X dX3_behind_49 rfl hl 1 rfl ?_
          refine g_iload_n X dX3_behind_50 rfl hl 2 rfl ?_
          refine g_aload_n X dX3_behind_51 rfl hl 1 rfl ?_
          refine g_get X hk (v := .int (iI (gNow S))) in_X3 rfl (MP.O hM) 14 (by decide) q615 (sI (MR.now hR)) dX3_behind_52 ?_
          refine g_pV X hk (As := [.int (iI ((j : Nat) : Int)), .int (iI (gNow S))]) (rest := [.int (iI (((((gNow S) + ((i : Nat) : Int)) + 1) - gOff S j) / gCyc S))]) rfl (MP.O hM) (m_cycleOf l E am S M s.heap hM hI hR j hj (gNow S) (by omega)) 2 (lw_V q799 q801 qs33 q48 q802) (by decide +kernel) ⟨⟨Nat.le_of_ble_eq_true rfl, Nat.le_of_ble_eq_true rfl⟩, Nat.le_of_ble_eq_true rfl, Nat.le_of_ble_eq_true rfl⟩ rfl rfl hl.1 (Nat.le_of_ble_eq_true rfl) dX3_behind_55 ?_
          refine g_icmp_ne X dX3_behind_58 (tgt := 67) (by decide) (by omega) (fun c58 => ?_) (fun c58 => ?_)
          · refine g_iload_n X dX3_behind_67 rfl hl 0 rfl ?_
            exact g_iretP X (by have h1 := hph2 i; have h2 := hcy i; grind) dX3_behind_68
          · refine g_iinc (lv' := [(3, .int (iI (((i : Nat) : Int) + 1))), (0, .ref (am 0)), (1, .int (iI ((j : Nat) : Int))), (2, .int (iI ((p : Nat) : Int)))]) X dX3_behind_61 hl (k := 0) rfl (by decide) rfl (fun ls hl => ?_)
            refine g_goto X dX3_behind_64 (tgt := 2) (by decide) ?_
            exact ih_2.out (i + 1) (((i : Nat) : Int) + 1) (by omega) (by omega) (by have h1 := hstop i; grind) _ (lv_sub hl [0, 1, 2, 3] rfl)
  exact loop_2.out 100 0 0 (by omega) (rfl) (by omega) _ (lv_sub hl [0, 1, 2, 3] rfl)
