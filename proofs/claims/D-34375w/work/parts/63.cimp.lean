/-! the corridor: offsets sought -/
theorem mgK.of2 {E : EP} {S S1 : GS} {s0 b q : Nat} {f : Nat → Option Nat} {H : Heap} (h : mgK E S s0 b q f (2 * gN S) H) (o : offE S S1) : mgK E S1 s0 b q f (2 * gN S1) H := by
  rw [o.n]
  exact h.off o
theorem im_end {S : GS} {r : Nat} (h : r ≤ 10) (h2 : r = 10 ∨ (imS S r).2 = false) : imS S r = imS S 10 := by
  rcases h2 with e | e
  · rw [e]
  · have := imS_st e (10 - r)
    rw [show r + (10 - r) = 10 by omega] at this
    exact this.symm
set_option maxHeartbeats 4000000 in
theorem p_improve (l : Launch) (E : EP) (hst : l.stackTraces = false) (ad : Nat → Nat → Nat) (S : GS) (H : Heap) (hP : GP E ad S H) (hI : gI S) : gCi l E yX1_improve cX1_improve 10 .int 9 23 970 H [.ref (ad 6 0)] (gW (gN S) ad H) (fun z H1 => erI S = 0 ∧ z = bns (imS S 10).1 ∧ GP E ad (imS S 10).1 H1) (xC (erI S) [nSt]) := by
  refine g_metX (by decide) (Nat.le_of_ble_eq_true rfl) (fun P_ e_ s M_ bl mt_ c_ ls X hno_ hk hh hl => ?_)
  subst hh
  have X : gX P_ s M_ mt_ c_ cX1_improve 10 ([.ref (ad 6 0)] : List Value).toArray RX1 (some .int) := X
  have hl : lv_has ls 10 [(0, .ref (ad 6 0))] := hl
  have hS : va_S (nA s.heap) s.heap s.heap [] := va_S.rf
  have hN0 : eN E ≤ s.heap.size := hk.N
  have hA0_ := GP.lts hP
  have hn5 := hI.1.1
  have hc := hI.2.1
  have hrun := hI.1.2.1
  have hnow := hI.1.2.2
  refine g_aload_n X dX1_improve_0 rfl hl 0 rfl ?_
  refine g_xcallvE (g_xrunV X hk (As := []) (rest := []) rfl (GP.X hP) (p_requirePlans l E hst ad S s.heap hP hI) 0 (lw_V q392 q394 qs5 q46 q395) (by decide +kernel) ⟨⟨Nat.le_of_ble_eq_true rfl, Nat.le_of_ble_eq_true rfl⟩, Nat.le_of_ble_eq_true rfl, Nat.le_of_ble_eq_true rfl⟩ rfl rfl hl.1 (Nat.le_of_ble_eq_true rfl) dX1_improve_1) X hno_ hk hS (fun q h => Nat.le_trans hS.1 h) (fun q h => Nat.le_trans hk.N h) (fun q h => Or.inr h) (fun Ex h => by obtain ⟨h1, rfl⟩ := h.one; exact ⟨0, by unfold erI; revert h1; unfold erD; grind, rfl⟩) ⟨Nat.le_of_ble_eq_true rfl, Nat.le_of_ble_eq_true rfl⟩ (fun locs hB1 hS => ?_)
  have hLs := alP_L hB1
  have join_16 : gHide (∀ (z : Int) (ls : Array Slot), z = (bZ (decide (gRun S = 0))) → lv_has ls 10 [(0, .ref (ad 6 0))] → W P_ l e_ (gR 9 23 970) s M_ ([.ref (ad 6 0)] : List Value).toArray bl mt_ c_ s.heap locs (0 + 1) (0 + 6) (vx_MQ bl (gQi (gW (gN S) ad s.heap) (fun z H1 => erI S = 0 ∧ z = bns (imS S 10).1 ∧ GP E ad (imS S 10).1 H1)) (gXD (xC (erI S) [nSt])) ([.ref (ad 6 0)] : List Value).toArray s 23 970 (gW (gN S) ad s.heap)) (F0 M_ 16 ls [.int (iI z)])) := by
    intro z ls e_z hl
    subst e_z
    have hl : lv_has ls 10 [(0, .ref (ad 6 0))] := hl
    have hzr := bZ_le (decide (gRun S = 0))
    refine (show (bZ (decide (gRun S = 0))) = 0 ∨ (bZ (decide (gRun S = 0))) = 1 by omega).elim (fun z16 => ?_) (fun z16 => ?_)
    · exact g_thxS X hno_ hk (As := [.int (iI (bZ (decide (gRun S = 0))))]) (rest := []) (rq_State_t l E hst s.heap (bZ (decide (gRun S = 0))) z16) 1 (lw_S q326 q327 q46 q328) (by decide +kernel) ⟨⟨Nat.le_of_ble_eq_true rfl, Nat.le_of_ble_eq_true rfl⟩, Nat.le_of_ble_eq_true rfl, Nat.le_of_ble_eq_true rfl⟩ rfl rfl hl.1 (Nat.le_of_ble_eq_true rfl) dX1_improve_16 hS (fun q h => Or.inr h) (⟨0, by unfold erI; grind [bZ], rfl⟩) ⟨Nat.le_of_ble_eq_true rfl, Nat.le_of_ble_eq_true rfl⟩
    refine g_callE (g_runS X hk (As := [.int (iI (bZ (decide (gRun S = 0))))]) (rest := []) (rq_State l E s.heap (bZ (decide (gRun S = 0))) z16) 1 (lw_S q326 q327 q46 q328) (by decide +kernel) ⟨⟨Nat.le_of_ble_eq_true rfl, Nat.le_of_ble_eq_true rfl⟩, Nat.le_of_ble_eq_true rfl, Nat.le_of_ble_eq_true rfl⟩ rfl rfl hl.1 (Nat.le_of_ble_eq_true rfl) dX1_improve_16) ?_
    have h16 : gRun S = 0 := by grind [bZ]
    have hz : erI S = 0 := by unfold erI; grind
    refine g_aload_n X dX1_improve_19 rfl hl 0 rfl ?_
    have hs0_ := hS.1
    refine g_callr (g_runV X hk (As := []) (rest := []) rfl (GP.X hP) (p_mainGreens l E ad S s.heap hP hI hLs) 0 (lw_V q411 q413 qs6 q46 q414) (by decide +kernel) ⟨⟨Nat.le_of_ble_eq_true rfl, Nat.le_of_ble_eq_true rfl⟩, Nat.le_of_ble_eq_true rfl, Nat.le_of_ble_eq_true rfl⟩ rfl rfl hl.1 (Nat.le_of_ble_eq_true rfl) dX1_improve_20) hk hS (fun q h => Nat.le_trans hS.1 h) (fun q h => Nat.le_trans hk.N h) (fun qm H locs hP_ hk hz_ ho_ hS => ?_)
    replace ho_ := lk_nA (fun q h => h) ho_
    obtain ⟨f_, hM⟩ := hP_
    have lk_ := lk_new (s0 := s.heap.size) ho_
    have hP := GP.new hP ho_
    obtain ⟨b_, eb_⟩ : ∃ b_ : Nat, b_ = Array.size H := ⟨_, rfl⟩
    rw [← eb_] at hM
    have hS : va_S (gW (gN S) ad s.heap) s.heap H _ := g_ws hS (fun q h => Or.inr h)
    skip
    refine g_astore_n (lv' := [(1, .ref qm), (0, .ref (ad 6 0))]) X dX1_improve_23 rfl hl (by decide) rfl (fun ls hl => ?_)
    refine g_iconst X dX1_improve_24 ?_
    refine g_istore_n (lv' := [(2, .int (iI 1)), (1, .ref qm), (0, .ref (ad 6 0))]) X dX1_improve_25 rfl hl (by decide) rfl (fun ls hl => ?_)
    refine g_iconst X dX1_improve_26 ?_
    refine g_istore_n (lv' := [(3, .int (iI 0)), (2, .int (iI 1)), (1, .ref qm), (0, .ref (ad 6 0))]) X dX1_improve_27 rfl hl (by decide) rfl (fun ls hl => ?_)
    have loop_28 : gHide (∀ (n_ : Nat) (r : Nat) (v3 : Int) (v2 : Int) (H : Heap) (locs : List Loc), 11 ≤ r + n_ → v3 = ((r : Nat) : Int) → v2 = (bZ (imS S r).2) → (r ≤ 10) → (kk E s H) → (GP E ad (imS S r).1 H) → (va_S (gW (gN S) ad s.heap) s.heap H locs) → (mgK E S s.heap.size b_ qm f_ (2 * gN S) H) → ∀ (ls : Array Slot), lv_has ls 10 [(3, .int (iI v3)), (2, .int (iI v2)), (1, .ref qm), (0, .ref (ad 6 0))] → W P_ l e_ (gR 9 23 970) s M_ ([.ref (ad 6 0)] : List Value).toArray bl mt_ c_ H locs ((0 + 1) + 21) ((0 + 6) + 950) (vx_MQ bl (gQi (gW (gN S) ad s.heap) (fun z H1 => erI S = 0 ∧ z = bns (imS S 10).1 ∧ GP E ad (imS S 10).1 H1)) (gXD (xC (erI S) [nSt])) ([.ref (ad 6 0)] : List Value).toArray s 23 970 (gW (gN S) ad s.heap)) (F0 M_ 28 ls [])) := by
      intro n_
      induction n_ with
      | zero => intro r v3 v2 H locs hb_ e_v3 e_v2 hrb hk hP hS hM ls hl; exact absurd hb_ (by omega)
      | succ n_ ih_28 =>
        replace ih_28 := gHide.mk ih_28
        intro r v3 v2 H locs hb_ e_v3 e_v2 hrb hk hP hS hM ls hl
        subst e_v3
        subst e_v2
        have hl : lv_has ls 10 [(3, .int (iI ((r : Nat) : Int))), (2, .int (iI (bZ (imS S r).2))), (1, .ref qm), (0, .ref (ad 6 0))] := hl
        have o8 := imS_off hI r
        have hnr := o8.n
        have hz28 := bZ_le (imS S r).2
        have join_174 : gHide (∀ (H : Heap) (locs : List Loc) (ls : Array Slot), (kk E s H) → (GP E ad (imS S 10).1 H) → (va_S (gW (gN S) ad s.heap) s.heap H locs) → (mgK E S s.heap.size b_ qm f_ (2 * gN S) H) → lv_has ls 10 [(1, .ref qm), (0, .ref (ad 6 0))] → W P_ l e_ (gR 9 23 970) s M_ ([.ref (ad 6 0)] : List Value).toArray bl mt_ c_ H locs ((0 + 1) + 21) ((0 + 6) + 950) (vx_MQ bl (gQi (gW (gN S) ad s.heap) (fun z H1 => erI S = 0 ∧ z = bns (imS S 10).1 ∧ GP E ad (imS S 10).1 H1)) (gXD (xC (erI S) [nSt])) ([.ref (ad 6 0)] : List Value).toArray s 23 970 (gW (gN S) ad s.heap)) (F0 M_ 174 ls [])) := by
          intro H locs ls hk hP hS hM hl
          have hl : lv_has ls 10 [(1, .ref qm), (0, .ref (ad 6 0))] := hl
          have hIe := (imS_off hI 10).gI hI
          refine g_aload_n X dX1_improve_174 rfl hl 1 rfl ?_
          refine g_aload_n X dX1_improve_175 rfl hl 0 rfl ?_
          refine g_pV X hk (As := [.ref qm]) (rest := []) rfl (GP.X hP) (p_bands l E ad (imS S 10).1 _ _ _ _ H hP hIe (hM.of2 (imS_off hI 10))) 1 (lw_V q434 q436 qs9 q46 q437) (by decide +kernel) ⟨⟨Nat.le_of_ble_eq_true rfl, Nat.le_of_ble_eq_true rfl⟩, Nat.le_of_ble_eq_true rfl, Nat.le_of_ble_eq_true rfl⟩ rfl rfl hl.1 (Nat.le_of_ble_eq_true rfl) dX1_improve_176 ?_
          exact vx_ret (g_iret X hS (⟨hz, rfl, hP⟩) ⟨Nat.le_of_ble_eq_true rfl, Nat.le_of_ble_eq_true rfl⟩ dX1_improve_179)
        refine g_iload_n X dX1_improve_28 rfl hl 0 rfl ?_
        refine g_bipush X dX1_improve_29 rfl ?_
        refine g_icmp_ge X dX1_improve_31 (tgt := 174) (by decide) (by omega) (fun c31 => ?_) (fun c31 => ?_)
        · exact join_174.out H locs _ hk (by rw [show imS S 10 = imS S r from (im_end hrb (by first | exact Or.inl (by omega) | exact Or.inr (by grind [bZ]))).symm]; exact hP) hS hM (lv_sub hl [2, 3] rfl)
        · refine g_iload_n X dX1_improve_34 rfl hl 1 rfl ?_
          refine g_if_eq X dX1_improve_35 (tgt := 174) (by decide) (by omega) (fun c35 => ?_) (fun c35 => ?_)
          · exact join_174.out H locs _ hk (by rw [show imS S 10 = imS S r from (im_end hrb (by first | exact Or.inl (by omega) | exact Or.inr (by grind [bZ]))).symm]; exact hP) hS hM (lv_sub hl [2, 3] rfl)
          · have hch : (imS S r).2 = true := by grind [bZ]
            refine g_iconst X dX1_improve_38 ?_
            refine g_istore_n (lv' := [(2, .int (iI 0)), (3, .int (iI ((r : Nat) : Int))), (1, .ref qm), (0, .ref (ad 6 0))]) X dX1_improve_39 rfl hl (by decide) rfl (fun ls hl => ?_)
            refine g_iconst X dX1_improve_40 ?_
            refine g_istore (lv' := [(4, .int (iI 1)), (2, .int (iI 0)), (3, .int (iI ((r : Nat) : Int))), (1, .ref qm), (0, .ref (ad 6 0))]) X dX1_improve_41 hl (by decide) rfl (fun ls hl => ?_)
            have loop_43 : gHide (∀ (n_ : Nat) (k : Nat) (v4 : Int) (v2 : Int) (H : Heap) (locs : List Loc), gN S + 1 ≤ k + n_ → v4 = (((k + 1) : Nat) : Int) → v2 = (bZ (imC (imS S r).1 k)) → (k + 1 ≤ gN S) → (kk E s H) → (GP E ad (imI (imS S r).1 k) H) → (va_S (gW (gN S) ad s.heap) s.heap H locs) → (mgK E S s.heap.size b_ qm f_ (2 * gN S) H) → ∀ (ls : Array Slot), lv_has ls 10 [(4, .int (iI v4)), (2, .int (iI v2)), (3, .int (iI ((r : Nat) : Int))), (1, .ref qm), (0, .ref (ad 6 0))] → W P_ l e_ (gR 9 23 970) s M_ ([.ref (ad 6 0)] : List Value).toArray bl mt_ c_ H locs ((0 + 1) + 21) ((0 + 6) + 950) (vx_MQ bl (gQi (gW (gN S) ad s.heap) (fun z H1 => erI S = 0 ∧ z = bns (imS S 10).1 ∧ GP E ad (imS S 10).1 H1)) (gXD (xC (erI S) [nSt])) ([.ref (ad 6 0)] : List Value).toArray s 23 970 (gW (gN S) ad s.heap)) (F0 M_ 43 ls [])) := by
              intro n_
              induction n_ with
              | zero => intro k v4 v2 H locs hb_ e_v4 e_v2 hkb hk hP hS hM ls hl; exact absurd hb_ (by omega)
              | succ n_ ih_43 =>
                replace ih_43 := gHide.mk ih_43
                intro k v4 v2 H locs hb_ e_v4 e_v2 hkb hk hP hS hM ls hl
                subst e_v4
                subst e_v2
                have hl : lv_has ls 10 [(4, .int (iI (((k + 1) : Nat) : Int))), (2, .int (iI (bZ (imC (imS S r).1 k)))), (3, .int (iI ((r : Nat) : Int))), (1, .ref qm), (0, .ref (ad 6 0))] := hl
                have o8k := o8.trans (imI_off (o8.gI hI) k)
                have hnk := o8k.n
                have hck := o8k.cyc
                have hz43 := bZ_le (imC (imS S r).1 k)
                have hIk := o8k.gI hI
                refine g_iload X dX1_improve_43 hl 0 rfl ?_
                refine g_aload_n X dX1_improve_45 rfl hl 4 rfl ?_
                refine g_get X hk (v := .ref (ad 7 0)) in_X1 rfl (GP.X hP) 0 (by decide) q142 (rfl) dX1_improve_46 ?_
                refine g_alenQ X hk (n := (gN (imI (imS S r).1 k))) (GP.Q hP) rfl dX1_improve_49 ?_
                refine g_icmp_ge X dX1_improve_50 (tgt := 168) (by decide) (by omega) (fun c50 => ?_) (fun c50 => ?_)
                · have ek : k = gN S - 1 := by omega
                  have hPr : GP E ad (imS S (r + 1)).1 H := by simp only [imS]; rw [if_pos hch, ← ek]; exact hP
                  refine g_iinc (lv' := [(3, .int (iI (((r : Nat) : Int) + 1))), (4, .int (iI (((k + 1) : Nat) : Int))), (2, .int (iI (bZ (imC (imS S r).1 k)))), (1, .ref qm), (0, .ref (ad 6 0))]) X dX1_improve_168 hl (k := 2) rfl (by decide) rfl (fun ls hl => ?_)
                  refine g_goto X dX1_improve_171 (tgt := 28) (by decide) ?_
                  exact ih_28.out (r + 1) (((r : Nat) : Int) + 1) (bZ (imC (imS S r).1 k)) H locs (by omega) (by omega) (by simp only [imS]; rw [if_pos hch, ← ek]) (by omega) hk hPr hS hM _ (lv_sub hl [0, 2, 3, 4] rfl)
                · have hjT : k + 1 < gN (imI (imS S r).1 k) := by omega
                  skip
                  refine g_aload_n X dX1_improve_53 rfl hl 4 rfl ?_
                  refine g_get X hk (v := .ref (ad 7 0)) in_X1 rfl (GP.X hP) 0 (by decide) q142 (rfl) dX1_improve_54 ?_
                  refine g_iload X dX1_improve_57 hl 0 rfl ?_
                  refine g_aald X hk (j := (k + 1)) (n := (gN (imI (imS S r).1 k))) (q := (ad 0 (k + 1))) (GP.Q hP) (cA := 1) rfl rfl (by omega) (by omega) (rfl) dX1_improve_59 ?_
                  refine g_getN X hk (v := .int (iI (gOff (imI (imS S r).1 k) (k + 1)))) (host := "Greenwave") in_X2 rfl (GP.J hP hjT) 4 (by decide) 4 rfl (rfl) dX1_improve_60 ?_
                  refine g_istore (lv' := [(5, .int (iI (gOff (imI (imS S r).1 k) (k + 1)))), (4, .int (iI (((k + 1) : Nat) : Int))), (2, .int (iI (bZ (imC (imS S r).1 k)))), (3, .int (iI ((r : Nat) : Int))), (1, .ref qm), (0, .ref (ad 6 0))]) X dX1_improve_63 hl (by decide) rfl (fun ls hl => ?_)
                  refine g_iconst X dX1_improve_65 ?_
                  refine g_istore (lv' := [(6, .int (iI 0)), (5, .int (iI (gOff (imI (imS S r).1 k) (k + 1)))), (4, .int (iI (((k + 1) : Nat) : Int))), (2, .int (iI (bZ (imC (imS S r).1 k)))), (3, .int (iI ((r : Nat) : Int))), (1, .ref qm), (0, .ref (ad 6 0))]) X dX1_improve_66 hl (by decide) rfl (fun ls hl => ?_)
                  refine g_iconst X dX1_improve_68 ?_
                  refine g_istore (lv' := [(7, .int (iI (-1))), (6, .int (iI 0)), (5, .int (iI (gOff (imI (imS S r).1 k) (k + 1)))), (4, .int (iI (((k + 1) : Nat) : Int))), (2, .int (iI (bZ (imC (imS S r).1 k)))), (3, .int (iI ((r : Nat) : Int))), (1, .ref qm), (0, .ref (ad 6 0))]) X dX1_improve_69 hl (by decide) rfl (fun ls hl => ?_)
                  refine g_iconst X dX1_improve_71 ?_
                  refine g_istore (lv' := [(8, .int (iI 0)), (7, .int (iI (-1))), (6, .int (iI 0)), (5, .int (iI (gOff (imI (imS S r).1 k) (k + 1)))), (4, .int (iI (((k + 1) : Nat) : Int))), (2, .int (iI (bZ (imC (imS S r).1 k)))), (3, .int (iI ((r : Nat) : Int))), (1, .ref qm), (0, .ref (ad 6 0))]) X dX1_improve_72 hl (by decide) rfl (fun ls hl => ?_)
                  have loop_74 : gHide (∀ (n_ : Nat) (o : Nat) (y : Int) (v8 : Int) (v6 : Int) (v7 : Int) (H : Heap) (locs : List Loc), (gCyc S).toNat + 1 ≤ o + n_ → v8 = ((o : Nat) : Int) → v6 = (btB (imI (imS S r).1 k) (k + 1) o) → v7 = (btM (imI (imS S r).1 k) (k + 1) o) → (o ≤ (gCyc S).toNat) → (offE S (gset (imI (imS S r).1 k) 14 (k + 1) 0 y)) → (kk E s H) → (GP E ad (gset (imI (imS S r).1 k) 14 (k + 1) 0 y) H) → (va_S (gW (gN S) ad s.heap) s.heap H locs) → (mgK E S s.heap.size b_ qm f_ (2 * gN S) H) → ∀ (ls : Array Slot), lv_has ls 10 [(8, .int (iI v8)), (6, .int (iI v6)), (7, .int (iI v7)), (5, .int (iI (gOff (imI (imS S r).1 k) (k + 1)))), (4, .int (iI (((k + 1) : Nat) : Int))), (2, .int (iI (bZ (imC (imS S r).1 k)))), (3, .int (iI ((r : Nat) : Int))), (1, .ref qm), (0, .ref (ad 6 0))] → W P_ l e_ (gR 9 23 970) s M_ ([.ref (ad 6 0)] : List Value).toArray bl mt_ c_ H locs ((0 + 1) + 21) ((0 + 6) + 950) (vx_MQ bl (gQi (gW (gN S) ad s.heap) (fun z H1 => erI S = 0 ∧ z = bns (imS S 10).1 ∧ GP E ad (imS S 10).1 H1)) (gXD (xC (erI S) [nSt])) ([.ref (ad 6 0)] : List Value).toArray s 23 970 (gW (gN S) ad s.heap)) (F0 M_ 74 ls [])) := by
                    intro n_
                    induction n_ with
                    | zero => intro o y v8 v6 v7 H locs hb_ e_v8 e_v6 e_v7 hob o8y hk hP hS hM ls hl; exact absurd hb_ (by omega)
                    | succ n_ ih_74 =>
                      replace ih_74 := gHide.mk ih_74
                      intro o y v8 v6 v7 H locs hb_ e_v8 e_v6 e_v7 hob o8y hk hP hS hM ls hl
                      subst e_v8
                      subst e_v6
                      subst e_v7
                      have hl : lv_has ls 10 [(8, .int (iI ((o : Nat) : Int))), (6, .int (iI (btB (imI (imS S r).1 k) (k + 1) o))), (7, .int (iI (btM (imI (imS S r).1 k) (k + 1) o))), (5, .int (iI (gOff (imI (imS S r).1 k) (k + 1)))), (4, .int (iI (((k + 1) : Nat) : Int))), (2, .int (iI (bZ (imC (imS S r).1 k)))), (3, .int (iI ((r : Nat) : Int))), (1, .ref qm), (0, .ref (ad 6 0))] := hl
                      have hny := o8y.n
                      have hcy := o8y.cyc
                      have hbm := btM_b hIk (k + 1) o (by omega)
                      have hbb := btB_b (imI (imS S r).1 k) (k + 1) o
                      refine g_iload X dX1_improve_74 hl 0 rfl ?_
                      refine g_aload_n X dX1_improve_76 rfl hl 8 rfl ?_
                      refine g_get X hk (v := .int (iI (gCyc (gset (imI (imS S r).1 k) 14 (k + 1) 0 y)))) in_X1 rfl (GP.X hP) 1 (by decide) q143 (rfl) dX1_improve_77 ?_
                      refine g_icmp_ge X dX1_improve_80 (tgt := 133) (by decide) (by omega) (fun c80 => ?_) (fun c80 => ?_)
                      · have eo : o = (gCyc (imI (imS S r).1 k)).toNat := by omega
                        have hbc := btB_b (imI (imS S r).1 k) (k + 1) o
                        have hofk := (hIk.2.2 (k + 1) hjT).2.2.2.2.1
                        refine g_aload_n X dX1_improve_133 rfl hl 8 rfl ?_
                        refine g_get X hk (v := .ref (ad 7 0)) in_X1 rfl (GP.X hP) 0 (by decide) q142 (rfl) dX1_improve_134 ?_
                        refine g_iload X dX1_improve_137 hl 4 rfl ?_
                        refine g_aald X hk (j := (k + 1)) (n := (gN (gset (imI (imS S r).1 k) 14 (k + 1) 0 y))) (q := (ad 0 (k + 1))) (GP.Q hP) (cA := 1) rfl rfl (by omega) (by omega) (rfl) dX1_improve_139 ?_
                        refine g_iload X dX1_improve_140 hl 1 rfl ?_
                        refine g_putN X hk hS ⟨Or.inl ⟨0, (k + 1), gv_0 (by decide) (by omega), rfl⟩, hP.2.2 _ _ (gv_0 (by decide) hjT)⟩ in_X2 tyX2 tyX2_ok nmX2 rfl (GP.J hP hjT) 4 (by decide) 4 rfl rfl (ty := .int) (by decide +kernel) rfl rfl (Nat.le_of_ble_eq_true rfl) dX1_improve_142 (fun H locs hc_ hk hz_ ho_ hS => ?_)
                        have lk_ := lk_put (s0 := s.heap.size) (H := _) hA0_ (gv_0 (by decide) (by omega)) ho_
                        have hP : GP E ad (gset (gset (imI (imS S r).1 k) 14 (k + 1) 0 y) 14 (k + 1) 0 (btB (imI (imS S r).1 k) (k + 1) o)) H := GP.putJ hP hjT 4 rfl hc_ ho_
                        have hM := hM.kp lk_
                        rw [gset_gset, eo] at hP
                        have hP : GP E ad (imI (imS S r).1 (k + 1)) H := hP
                        refine g_iload_n X dX1_improve_145 rfl hl 5 rfl ?_
                        have join_161 : gHide (∀ (z : Int) (ls : Array Slot), z = (bZ (imC (imS S r).1 (k + 1))) → lv_has ls 10 [(8, .int (iI ((o : Nat) : Int))), (6, .int (iI (btB (imI (imS S r).1 k) (k + 1) o))), (7, .int (iI (btM (imI (imS S r).1 k) (k + 1) o))), (5, .int (iI (gOff (imI (imS S r).1 k) (k + 1)))), (4, .int (iI (((k + 1) : Nat) : Int))), (2, .int (iI (bZ (imC (imS S r).1 k)))), (3, .int (iI ((r : Nat) : Int))), (1, .ref qm), (0, .ref (ad 6 0))] → W P_ l e_ (gR 9 23 970) s M_ ([.ref (ad 6 0)] : List Value).toArray bl mt_ c_ H locs ((0 + 1) + 21) ((0 + 6) + 950) (vx_MQ bl (gQi (gW (gN S) ad s.heap) (fun z H1 => erI S = 0 ∧ z = bns (imS S 10).1 ∧ GP E ad (imS S 10).1 H1)) (gXD (xC (erI S) [nSt])) ([.ref (ad 6 0)] : List Value).toArray s 23 970 (gW (gN S) ad s.heap)) (F0 M_ 161 ls [.int (iI z)])) := by
                          intro z ls e_z hl
                          subst e_z
                          have hl : lv_has ls 10 [(8, .int (iI ((o : Nat) : Int))), (6, .int (iI (btB (imI (imS S r).1 k) (k + 1) o))), (7, .int (iI (btM (imI (imS S r).1 k) (k + 1) o))), (5, .int (iI (gOff (imI (imS S r).1 k) (k + 1)))), (4, .int (iI (((k + 1) : Nat) : Int))), (2, .int (iI (bZ (imC (imS S r).1 k)))), (3, .int (iI ((r : Nat) : Int))), (1, .ref qm), (0, .ref (ad 6 0))] := hl
                          refine g_istore_n (lv' := [(2, .int (iI (bZ (imC (imS S r).1 (k + 1))))), (8, .int (iI ((o : Nat) : Int))), (6, .int (iI (btB (imI (imS S r).1 k) (k + 1) o))), (7, .int (iI (btM (imI (imS S r).1 k) (k + 1) o))), (5, .int (iI (gOff (imI (imS S r).1 k) (k + 1)))), (4, .int (iI (((k + 1) : Nat) : Int))), (3, .int (iI ((r : Nat) : Int))), (1, .ref qm), (0, .ref (ad 6 0))]) X dX1_improve_161 rfl hl (by decide) rfl (fun ls hl => ?_)
                          refine g_iinc (lv' := [(4, .int (iI ((((k + 1) : Nat) : Int) + 1))), (2, .int (iI (bZ (imC (imS S r).1 (k + 1))))), (8, .int (iI ((o : Nat) : Int))), (6, .int (iI (btB (imI (imS S r).1 k) (k + 1) o))), (7, .int (iI (btM (imI (imS S r).1 k) (k + 1) o))), (5, .int (iI (gOff (imI (imS S r).1 k) (k + 1)))), (3, .int (iI ((r : Nat) : Int))), (1, .ref qm), (0, .ref (ad 6 0))]) X dX1_improve_162 hl (k := 5) rfl (by decide) rfl (fun ls hl => ?_)
                          refine g_goto X dX1_improve_165 (tgt := 43) (by decide) ?_
                          exact ih_43.out (k + 1) ((((k + 1) : Nat) : Int) + 1) (bZ (imC (imS S r).1 (k + 1))) H locs (by omega) (by omega) (rfl) (by omega) hk hP hS hM _ (lv_sub hl [0, 1, 6, 7, 8] rfl)
                        refine g_if_ne X dX1_improve_146 (tgt := 156) (by decide) (by omega) (fun c146 => ?_) (fun c146 => ?_)
                        · refine g_iconst X dX1_improve_156 ?_
                          refine g_goto X dX1_improve_157 (tgt := 161) (by decide) ?_
                          exact join_161.out 1 _ (by simp only [imC]; rw [← eo]; grind [bZ]) (lv_sub hl [0, 1, 2, 3, 4, 5, 6, 7, 8] rfl)
                        · refine g_iload X dX1_improve_149 hl 1 rfl ?_
                          refine g_iload X dX1_improve_151 hl 3 rfl ?_
                          refine g_icmp_eq X dX1_improve_153 (tgt := 160) (by decide) (by omega) (fun c153 => ?_) (fun c153 => ?_)
                          · refine g_iconst X dX1_improve_160 ?_
                            exact join_161.out 0 _ (by simp only [imC]; rw [← eo]; grind [bZ]) (lv_sub hl [0, 1, 2, 3, 4, 5, 6, 7, 8] rfl)
                          · refine g_iconst X dX1_improve_156 ?_
                            refine g_goto X dX1_improve_157 (tgt := 161) (by decide) ?_
                            exact join_161.out 1 _ (by simp only [imC]; rw [← eo]; grind [bZ]) (lv_sub hl [0, 1, 2, 3, 4, 5, 6, 7, 8] rfl)
                      · refine g_aload_n X dX1_improve_83 rfl hl 8 rfl ?_
                        refine g_get X hk (v := .ref (ad 7 0)) in_X1 rfl (GP.X hP) 0 (by decide) q142 (rfl) dX1_improve_84 ?_
                        refine g_iload X dX1_improve_87 hl 4 rfl ?_
                        refine g_aald X hk (j := (k + 1)) (n := (gN (gset (imI (imS S r).1 k) 14 (k + 1) 0 y))) (q := (ad 0 (k + 1))) (GP.Q hP) (cA := 1) rfl rfl (by omega) (by omega) (rfl) dX1_improve_89 ?_
                        refine g_iload X dX1_improve_90 hl 0 rfl ?_
                        refine g_putN X hk hS ⟨Or.inl ⟨0, (k + 1), gv_0 (by decide) (by omega), rfl⟩, hP.2.2 _ _ (gv_0 (by decide) hjT)⟩ in_X2 tyX2 tyX2_ok nmX2 rfl (GP.J hP hjT) 4 (by decide) 4 rfl rfl (ty := .int) (by decide +kernel) rfl rfl (Nat.le_of_ble_eq_true rfl) dX1_improve_92 (fun H locs hc_ hk hz_ ho_ hS => ?_)
                        have lk_ := lk_put (s0 := s.heap.size) (H := _) hA0_ (gv_0 (by decide) (by omega)) ho_
                        have hP : GP E ad (gset (gset (imI (imS S r).1 k) 14 (k + 1) 0 y) 14 (k + 1) 0 ((o : Nat) : Int)) H := GP.putJ hP hjT 4 rfl hc_ ho_
                        have hM := hM.kp lk_
                        rw [gset_gset] at hP
                        have o8z : offE S (gset (imI (imS S r).1 k) 14 (k + 1) 0 ((o : Nat) : Int)) := o8k.set (by omega)
                        have hIz := o8z.gI hI
                        refine g_aload_n X dX1_improve_95 rfl hl 8 rfl ?_
                        refine g_aload_n X dX1_improve_96 rfl hl 7 rfl ?_
                        refine g_pV X hk (As := [.ref qm]) (rest := []) rfl (GP.X hP) (p_bands l E ad (gset (imI (imS S r).1 k) 14 (k + 1) 0 ((o : Nat) : Int)) _ _ _ _ H hP hIz (hM.of2 o8z)) 1 (lw_V q434 q436 qs9 q46 q437) (by decide +kernel) ⟨⟨Nat.le_of_ble_eq_true rfl, Nat.le_of_ble_eq_true rfl⟩, Nat.le_of_ble_eq_true rfl, Nat.le_of_ble_eq_true rfl⟩ rfl rfl hl.1 (Nat.le_of_ble_eq_true rfl) dX1_improve_97 ?_
                        have hbz := bns_b hIz
                        refine g_istore (lv' := [(9, .int (iI (bns (gset (imI (imS S r).1 k) 14 (k + 1) 0 ((o : Nat) : Int))))), (8, .int (iI ((o : Nat) : Int))), (6, .int (iI (btB (imI (imS S r).1 k) (k + 1) o))), (7, .int (iI (btM (imI (imS S r).1 k) (k + 1) o))), (5, .int (iI (gOff (imI (imS S r).1 k) (k + 1)))), (4, .int (iI (((k + 1) : Nat) : Int))), (2, .int (iI (bZ (imC (imS S r).1 k)))), (3, .int (iI ((r : Nat) : Int))), (1, .ref qm), (0, .ref (ad 6 0))]) X dX1_improve_100 hl (by decide) rfl (fun ls hl => ?_)
                        have join_116 : gHide (∀ (z : Int) (ls : Array Slot), z = (btB (imI (imS S r).1 k) (k + 1) (o + 1)) → lv_has ls 10 [(9, .int (iI (bns (gset (imI (imS S r).1 k) 14 (k + 1) 0 ((o : Nat) : Int))))), (8, .int (iI ((o : Nat) : Int))), (6, .int (iI (btB (imI (imS S r).1 k) (k + 1) o))), (7, .int (iI (btM (imI (imS S r).1 k) (k + 1) o))), (5, .int (iI (gOff (imI (imS S r).1 k) (k + 1)))), (4, .int (iI (((k + 1) : Nat) : Int))), (2, .int (iI (bZ (imC (imS S r).1 k)))), (3, .int (iI ((r : Nat) : Int))), (1, .ref qm), (0, .ref (ad 6 0))] → W P_ l e_ (gR 9 23 970) s M_ ([.ref (ad 6 0)] : List Value).toArray bl mt_ c_ H locs ((0 + 1) + 21) ((0 + 6) + 950) (vx_MQ bl (gQi (gW (gN S) ad s.heap) (fun z H1 => erI S = 0 ∧ z = bns (imS S 10).1 ∧ GP E ad (imS S 10).1 H1)) (gXD (xC (erI S) [nSt])) ([.ref (ad 6 0)] : List Value).toArray s 23 970 (gW (gN S) ad s.heap)) (F0 M_ 116 ls [.int (iI z)])) := by
                          intro z ls e_z hl
                          subst e_z
                          have hl : lv_has ls 10 [(9, .int (iI (bns (gset (imI (imS S r).1 k) 14 (k + 1) 0 ((o : Nat) : Int))))), (8, .int (iI ((o : Nat) : Int))), (6, .int (iI (btB (imI (imS S r).1 k) (k + 1) o))), (7, .int (iI (btM (imI (imS S r).1 k) (k + 1) o))), (5, .int (iI (gOff (imI (imS S r).1 k) (k + 1)))), (4, .int (iI (((k + 1) : Nat) : Int))), (2, .int (iI (bZ (imC (imS S r).1 k)))), (3, .int (iI ((r : Nat) : Int))), (1, .ref qm), (0, .ref (ad 6 0))] := hl
                          refine g_istore (lv' := [(6, .int (iI (btB (imI (imS S r).1 k) (k + 1) (o + 1)))), (9, .int (iI (bns (gset (imI (imS S r).1 k) 14 (k + 1) 0 ((o : Nat) : Int))))), (8, .int (iI ((o : Nat) : Int))), (7, .int (iI (btM (imI (imS S r).1 k) (k + 1) o))), (5, .int (iI (gOff (imI (imS S r).1 k) (k + 1)))), (4, .int (iI (((k + 1) : Nat) : Int))), (2, .int (iI (bZ (imC (imS S r).1 k)))), (3, .int (iI ((r : Nat) : Int))), (1, .ref qm), (0, .ref (ad 6 0))]) X dX1_improve_116 hl (by decide) rfl (fun ls hl => ?_)
                          refine g_iload X dX1_improve_118 hl 3 rfl ?_
                          refine g_iload X dX1_improve_120 hl 1 rfl ?_
                          refine g_pS X hk (As := [.int (iI (btM (imI (imS S r).1 k) (k + 1) o)), .int (iI (bns (gset (imI (imS S r).1 k) 14 (k + 1) 0 ((o : Nat) : Int))))]) (rest := []) (p_max l E (btM (imI (imS S r).1 k) (k + 1) o) (bns (gset (imI (imS S r).1 k) 14 (k + 1) 0 ((o : Nat) : Int))) H (by omega) (by omega)) 2 (lw_S q449 q409 q57 q410) (by decide +kernel) ⟨⟨Nat.le_of_ble_eq_true rfl, Nat.le_of_ble_eq_true rfl⟩, Nat.le_of_ble_eq_true rfl, Nat.le_of_ble_eq_true rfl⟩ rfl rfl hl.1 (Nat.le_of_ble_eq_true rfl) dX1_improve_122 ?_
                          refine g_istore (lv' := [(7, .int (iI (max (btM (imI (imS S r).1 k) (k + 1) o) (bns (gset (imI (imS S r).1 k) 14 (k + 1) 0 ((o : Nat) : Int)))))), (6, .int (iI (btB (imI (imS S r).1 k) (k + 1) (o + 1)))), (9, .int (iI (bns (gset (imI (imS S r).1 k) 14 (k + 1) 0 ((o : Nat) : Int))))), (8, .int (iI ((o : Nat) : Int))), (5, .int (iI (gOff (imI (imS S r).1 k) (k + 1)))), (4, .int (iI (((k + 1) : Nat) : Int))), (2, .int (iI (bZ (imC (imS S r).1 k)))), (3, .int (iI ((r : Nat) : Int))), (1, .ref qm), (0, .ref (ad 6 0))]) X dX1_improve_125 hl (by decide) rfl (fun ls hl => ?_)
                          refine g_iinc (lv' := [(8, .int (iI (((o : Nat) : Int) + 1))), (7, .int (iI (max (btM (imI (imS S r).1 k) (k + 1) o) (bns (gset (imI (imS S r).1 k) 14 (k + 1) 0 ((o : Nat) : Int)))))), (6, .int (iI (btB (imI (imS S r).1 k) (k + 1) (o + 1)))), (9, .int (iI (bns (gset (imI (imS S r).1 k) 14 (k + 1) 0 ((o : Nat) : Int))))), (5, .int (iI (gOff (imI (imS S r).1 k) (k + 1)))), (4, .int (iI (((k + 1) : Nat) : Int))), (2, .int (iI (bZ (imC (imS S r).1 k)))), (3, .int (iI ((r : Nat) : Int))), (1, .ref qm), (0, .ref (ad 6 0))]) X dX1_improve_127 hl (k := 3) rfl (by decide) rfl (fun ls hl => ?_)
                          refine g_goto X dX1_improve_130 (tgt := 74) (by decide) ?_
                          exact ih_74.out (o + 1) ((o : Nat) : Int) (((o : Nat) : Int) + 1) (btB (imI (imS S r).1 k) (k + 1) (o + 1)) (max (btM (imI (imS S r).1 k) (k + 1) o) (bns (gset (imI (imS S r).1 k) 14 (k + 1) 0 ((o : Nat) : Int)))) H locs (by omega) (by omega) (rfl) (rfl) (by omega) o8z hk hP hS hM _ (lv_sub hl [0, 2, 1, 4, 5, 6, 7, 8, 9] rfl)
                        refine g_iload X dX1_improve_102 hl 0 rfl ?_
                        refine g_iload X dX1_improve_104 hl 3 rfl ?_
                        refine g_icmp_le X dX1_improve_106 (tgt := 114) (by decide) (by omega) (fun c106 => ?_) (fun c106 => ?_)
                        · refine g_iload X dX1_improve_114 hl 2 rfl ?_
                          exact join_116.out (btB (imI (imS S r).1 k) (k + 1) o) _ (by simp only [btB]; grind) (lv_sub hl [0, 1, 2, 3, 4, 5, 6, 7, 8, 9] rfl)
                        · refine g_iload X dX1_improve_109 hl 1 rfl ?_
                          refine g_goto X dX1_improve_111 (tgt := 116) (by decide) ?_
                          exact join_116.out ((o : Nat) : Int) _ (by simp only [btB]; grind) (lv_sub hl [0, 1, 2, 3, 4, 5, 6, 7, 8, 9] rfl)
                  exact loop_74.out ((gCyc S).toNat + 1) 0 (gOff (imI (imS S r).1 k) (k + 1)) 0 0 (-1) H locs (by omega) (rfl) (rfl) (rfl) (by omega) (by rw [gset_self]; exact o8k) hk (by rw [gset_self]; exact hP) hS hM _ (lv_sub hl [0, 2, 1, 3, 4, 5, 6, 7, 8] rfl)
            exact loop_43.out (gN S + 1) 0 1 0 H locs (by omega) (rfl) (rfl) (by omega) hk hP hS hM _ (lv_sub hl [0, 1, 2, 3, 4] rfl)
    exact loop_28.out 11 0 0 1 H locs (by omega) (rfl) (rfl) (by omega) hk hP hS hM _ (lv_sub hl [0, 1, 2, 3] rfl)
  refine g_aload_n X dX1_improve_4 rfl hl 0 rfl ?_
  refine g_get X hk (v := .int (iI (gRun S))) in_X1 rfl (GP.X hP) 3 (by decide) q145 (rfl) dX1_improve_5 ?_
  refine g_if_ne X dX1_improve_8 (tgt := 15) (by decide) (by omega) (fun c8 => ?_) (fun c8 => ?_)
  · refine g_iconst X dX1_improve_15 ?_
    exact join_16.out 0 _ (by grind [bZ]) (lv_sub hl [0] rfl)
  · refine g_iconst X dX1_improve_11 ?_
    refine g_goto X dX1_improve_12 (tgt := 16) (by decide) ?_
    exact join_16.out 1 _ (by grind [bZ]) (lv_sub hl [0] rfl)
