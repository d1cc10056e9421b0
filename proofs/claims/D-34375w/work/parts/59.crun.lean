/-! the corridor runs -/
/-- the plans' rows: the first k -/
def pgK (E : EP) (S : GS) (s0 q : Nat) (f : Nat → Option Nat) (k : Nat) (H : Heap) : Prop := s0 ≤ q ∧ ce E q (aQ E 4 (gN S) f) H ∧ ∀ i, i < k → ∃ a, f i = some a ∧ s0 ≤ a ∧ a ≠ q ∧ ce E a (aI E (gNp S i) (grn S i)) H
section PG
variable {E : EP} {S S1 : GS} {s0 b b1 q : Nat} {f : Nat → Option Nat} {k : Nat} {H H1 : Heap}
theorem pgK.kp (h : pgK E S s0 q f k H) (o : lkS s0 H H1) : pgK E S s0 q f k H1 :=
  ⟨h.1, h.2.1.kept (o q h.1 h.2.1.lt), fun i hi => by
    obtain ⟨a, e1, e2, e3, e4⟩ := h.2.2 i hi
    exact ⟨a, e1, e2, e3, e4.kept (o a e2 e4.lt)⟩⟩
theorem mgK.kp (h : mgK E S s0 b q f k H) (o : lkS s0 H H1) : mgK E S s0 b q f k H1 :=
  ⟨h.1, h.2.1.kept (o q h.1.1 h.2.1.lt), fun i hi => by
    obtain ⟨a, e1, e2, e3, e4⟩ := h.2.2 i hi
    exact ⟨a, e1, e2, e3, e4.kept (o a e2.1 e4.lt)⟩⟩
theorem mgK.lt (h : mgK E S s0 b q f k H) : mgK E S s0 (Array.size H) q f k H :=
  ⟨⟨h.1.1, h.2.1.lt⟩, h.2.1, fun i hi => by
    obtain ⟨a, e1, e2, e3, e4⟩ := h.2.2 i hi
    exact ⟨a, e1, ⟨e2.1, e4.lt⟩, e3, e4⟩⟩
theorem pgK.step {a : Nat} (h : pgK E S s0 q f k H) (ha : s0 ≤ a ∧ a ≠ q) (hr : ce E a (aI E (gNp S k) (grn S k)) H) (hq : ce E q (aQ E 4 (gN S) (va_up f k (some a))) H1) (o : ∀ x : Nat, x ≠ q → H1[x]? = H[x]?) : pgK E S s0 q (va_up f k (some a)) (k + 1) H1 := by
  refine ⟨h.1, hq, fun i hi => ?_⟩
  by_cases e : i = k
  · subst e
    exact ⟨a, by simp [va_up], ha.1, ha.2, hr.kept (o a ha.2)⟩
  · obtain ⟨a2, e1, e2, e3, e4⟩ := h.2.2 i (by omega)
    exact ⟨a2, by simp [va_up, e, e1], e2, e3, e4.kept (o a2 e3)⟩
end PG
set_option maxHeartbeats 4000000 in
theorem p_run (l : Launch) (E : EP) (hst : l.stackTraces = false) (ad : Nat → Nat → Nat) (S : GS) (M : MS) (t : Int) (H : Heap) (hP : GP E ad S H) (hI : gI S) (hRL : RL S M) (ht : -2147483648 ≤ t ∧ t ≤ 2147483647) : gCi l E yX1_run cX1_run 6 .int 8 8 40 H [.ref (ad 6 0), .int (iI t)] (gW (gN S) ad H) (fun z H1 => erR S t = 0 ∧ z = gLef (sRun (gset S 33 0 0 1) t.toNat) - gLef S ∧ GP E ad (sRun (gset S 33 0 0 1) t.toNat) H1) (xC (erR S t) [nAr, nSt]) := by
  refine g_metX (by decide) (Nat.le_of_ble_eq_true rfl) (fun P_ e_ s M_ bl mt_ c_ ls X hno_ hk hh hl => ?_)
  subst hh
  have X : gX P_ s M_ mt_ c_ cX1_run 6 ([.ref (ad 6 0), .int (iI t)] : List Value).toArray RX1 (some .int) := X
  have hl : lv_has ls 6 [(0, .ref (ad 6 0)), (1, .int (iI t))] := hl
  have hS : va_S (nA s.heap) s.heap s.heap [] := va_S.rf
  have hN0 : eN E ≤ s.heap.size := hk.N
  have hA0_ := GP.lts hP
  have hn5 := hI.1.1
  have hc := hI.2.1
  have hrun := hI.1.2.1
  have hnow := hI.1.2.2
  refine g_iload_n X dX1_run_0 rfl hl 1 rfl ?_
  refine g_iconst X dX1_run_1 ?_
  refine g_sipush X dX1_run_2 rfl ?_
  refine g_pS X hk (As := [.int (iI t), .int (iI 1), .int (iI 600)]) (rest := []) (p_inRange l E t 1 600 s.heap (by omega) (by omega) (by omega)) 3 (lw_S q185 q186 q46 q187) (by decide +kernel) ⟨⟨Nat.le_of_ble_eq_true rfl, Nat.le_of_ble_eq_true rfl⟩, Nat.le_of_ble_eq_true rfl, Nat.le_of_ble_eq_true rfl⟩ rfl rfl hl.1 (Nat.le_of_ble_eq_true rfl) dX1_run_5 ?_
  have h8 := bZ_le (decide (1 ≤ t ∧ t ≤ 600))
  refine (show (bZ (decide (1 ≤ t ∧ t ≤ 600))) = 0 ∨ (bZ (decide (1 ≤ t ∧ t ≤ 600))) = 1 by omega).elim (fun z8 => ?_) (fun z8 => ?_)
  · exact g_thxS X hno_ hk (As := [.int (iI (bZ (decide (1 ≤ t ∧ t ≤ 600))))]) (rest := []) (rq_Argument_t l E hst s.heap (bZ (decide (1 ≤ t ∧ t ≤ 600))) z8) 1 (lw_S q188 q189 q46 q190) (by decide +kernel) ⟨⟨Nat.le_of_ble_eq_true rfl, Nat.le_of_ble_eq_true rfl⟩, Nat.le_of_ble_eq_true rfl, Nat.le_of_ble_eq_true rfl⟩ rfl rfl hl.1 (Nat.le_of_ble_eq_true rfl) dX1_run_8 hS (fun q h => Or.inr h) (⟨0, by unfold erR; grind [bZ], rfl⟩) ⟨Nat.le_of_ble_eq_true rfl, Nat.le_of_ble_eq_true rfl⟩
  refine g_callE (g_runS X hk (As := [.int (iI (bZ (decide (1 ≤ t ∧ t ≤ 600))))]) (rest := []) (rq_Argument l E s.heap (bZ (decide (1 ≤ t ∧ t ≤ 600))) z8) 1 (lw_S q188 q189 q46 q190) (by decide +kernel) ⟨⟨Nat.le_of_ble_eq_true rfl, Nat.le_of_ble_eq_true rfl⟩, Nat.le_of_ble_eq_true rfl, Nat.le_of_ble_eq_true rfl⟩ rfl rfl hl.1 (Nat.le_of_ble_eq_true rfl) dX1_run_8) ?_
  have h8 : 1 ≤ t ∧ t ≤ 600 := by grind [bZ]
  refine g_aload_n X dX1_run_11 rfl hl 0 rfl ?_
  refine g_xcallvE (g_xrunV X hk (As := []) (rest := []) rfl (GP.X hP) (p_requirePlans l E hst ad S s.heap hP hI) 0 (lw_V q392 q394 qs5 q46 q395) (by decide +kernel) ⟨⟨Nat.le_of_ble_eq_true rfl, Nat.le_of_ble_eq_true rfl⟩, Nat.le_of_ble_eq_true rfl, Nat.le_of_ble_eq_true rfl⟩ rfl rfl hl.1 (Nat.le_of_ble_eq_true rfl) dX1_run_12) X hno_ hk hS (fun q h => Nat.le_trans hS.1 h) (fun q h => Nat.le_trans hk.N h) (fun q h => Or.inr h) (fun Ex h => by obtain ⟨h1, rfl⟩ := h.one; exact ⟨1, by unfold erR; revert h1; unfold erD; grind, rfl⟩) ⟨Nat.le_of_ble_eq_true rfl, Nat.le_of_ble_eq_true rfl⟩ (fun locs hB12 hS => ?_)
  have hLs := alP_L hB12
  have join_32 : gHide (∀ (z : Int) (ls : Array Slot), z = (bZ (decide (gNow S + t ≤ 7200))) → lv_has ls 6 [(0, .ref (ad 6 0)), (1, .int (iI t))] → W P_ l e_ (gR 8 8 40) s M_ ([.ref (ad 6 0), .int (iI t)] : List Value).toArray bl mt_ c_ s.heap locs (0 + 1) (0 + 6) (vx_MQ bl (gQi (gW (gN S) ad s.heap) (fun z H1 => erR S t = 0 ∧ z = gLef (sRun (gset S 33 0 0 1) t.toNat) - gLef S ∧ GP E ad (sRun (gset S 33 0 0 1) t.toNat) H1)) (gXD (xC (erR S t) [nAr, nSt])) ([.ref (ad 6 0), .int (iI t)] : List Value).toArray s 8 40 (gW (gN S) ad s.heap)) (F0 M_ 32 ls [.int (iI z)])) := by
    intro z ls e_z hl
    subst e_z
    have hl : lv_has ls 6 [(0, .ref (ad 6 0)), (1, .int (iI t))] := hl
    have hz32 := bZ_le (decide (gNow S + t ≤ 7200))
    refine (show (bZ (decide (gNow S + t ≤ 7200))) = 0 ∨ (bZ (decide (gNow S + t ≤ 7200))) = 1 by omega).elim (fun z32 => ?_) (fun z32 => ?_)
    · exact g_thxS X hno_ hk (As := [.int (iI (bZ (decide (gNow S + t ≤ 7200))))]) (rest := []) (rq_State_t l E hst s.heap (bZ (decide (gNow S + t ≤ 7200))) z32) 1 (lw_S q326 q327 q46 q328) (by decide +kernel) ⟨⟨Nat.le_of_ble_eq_true rfl, Nat.le_of_ble_eq_true rfl⟩, Nat.le_of_ble_eq_true rfl, Nat.le_of_ble_eq_true rfl⟩ rfl rfl hl.1 (Nat.le_of_ble_eq_true rfl) dX1_run_32 hS (fun q h => Or.inr h) (⟨1, by unfold erR; grind [bZ], rfl⟩) ⟨Nat.le_of_ble_eq_true rfl, Nat.le_of_ble_eq_true rfl⟩
    refine g_callE (g_runS X hk (As := [.int (iI (bZ (decide (gNow S + t ≤ 7200))))]) (rest := []) (rq_State l E s.heap (bZ (decide (gNow S + t ≤ 7200))) z32) 1 (lw_S q326 q327 q46 q328) (by decide +kernel) ⟨⟨Nat.le_of_ble_eq_true rfl, Nat.le_of_ble_eq_true rfl⟩, Nat.le_of_ble_eq_true rfl, Nat.le_of_ble_eq_true rfl⟩ rfl rfl hl.1 (Nat.le_of_ble_eq_true rfl) dX1_run_32) ?_
    have h32 : gNow S + t ≤ 7200 := by grind [bZ]
    have hz : erR S t = 0 := by unfold erR; grind
    refine g_aload_n X dX1_run_35 rfl hl 0 rfl ?_
    refine g_iconst X dX1_run_36 ?_
    have hS : va_S (gW (gN S) ad s.heap) s.heap s.heap _ := g_ws hS (fun q h => Or.inr h)
    refine g_put X hk hS ⟨Or.inl ⟨6, 0, gv_6, rfl⟩, hP.2.2 _ _ gv_6⟩ in_X1 tyX1 tyX1_ok nmX1 rfl (GP.X hP) 3 (by decide) q145 rfl (ty := .boolean) (by decide +kernel) (iI_narB _ (by omega)) rfl (Nat.le_of_ble_eq_true rfl) dX1_run_37 (fun H locs hc_ hk hz_ ho_ hS => ?_)
    have hP : GP E ad (gset S 33 0 0 1) H := GP.putX hP 3 rfl hc_ ho_
    have hI1 := gI_run hI
    have hL1 : ∀ j, j < gN S → 0 ≤ lft (gset S 33 0 0 1) j := fun j hj => by rw [pl_lft (plE_run S 1 j)]; exact hLs j hj
    obtain ⟨M0, hG0⟩ := hRL.RG0
    have hP1 : gN (gset S 33 0 0 1) = gN S := rfl
    refine g_aload_n X dX1_run_40 rfl hl 0 rfl ?_
    refine g_get X hk (v := .int (iI (gLef S))) in_X1 rfl (GP.X hP) 5 (by decide) q147 (rfl) dX1_run_41 ?_
    refine g_istore_n (lv' := [(2, .int (iI (gLef S))), (0, .ref (ad 6 0)), (1, .int (iI t))]) X dX1_run_44 rfl hl (by decide) rfl (fun ls hl => ?_)
    refine g_aload_n X dX1_run_45 rfl hl 1 rfl ?_
    refine g_get X hk (v := .ref (ad 7 0)) in_X1 rfl (GP.X hP) 0 (by decide) q142 (rfl) dX1_run_46 ?_
    refine g_alenQ X hk (n := (gN S)) (GP.Q (S := (gset S 33 0 0 1)) hP) rfl dX1_run_49 ?_
    have hs0_ := hS.1
    refine g_newA X hk hS (cA := 4) (t := .int) q523 hk.ev.2.2.2.2.2.2.1 rfl (N := (gN S)) (by first | rfl | omega) (by omega) ⟨Nat.le_of_ble_eq_true rfl, by show (0 + 6) + (gN S) ≤ 40; omega⟩ dX1_run_50 (fun qc H hq_ hc_ hk hz_ ho_ hS => ?_)
    have hC : ce E qc (aQ E 4 (gN S) (fun _ => none)) H := hc_
    have hC_g : s.heap.size ≤ qc := by omega
    have lk_ := lk_new (s0 := s.heap.size) ho_
    have hP := GP.new hP ho_
    refine W.widen (k := ((0 + 1) + 1)) (n := ((0 + 6) + 5)) (Nat.le_refl _) (by show (0 + 6) + (gN S) ≤ ((0 + 6) + 5); omega) ?_
    have hQ : pgK E (gset S 33 0 0 1) s.heap.size qc (fun _ => none) 0 H := ⟨hC_g, hC, fun i hi => absurd hi (Nat.not_lt_zero i)⟩
    skip
    refine g_astore_n (lv' := [(3, .ref qc), (2, .int (iI (gLef S))), (0, .ref (ad 6 0)), (1, .int (iI t))]) X dX1_run_53 rfl hl (by decide) rfl (fun ls hl => ?_)
    refine g_iconst X dX1_run_54 ?_
    refine g_istore (lv' := [(4, .int (iI 0)), (3, .ref qc), (2, .int (iI (gLef S))), (0, .ref (ad 6 0)), (1, .int (iI t))]) X dX1_run_55 hl (by decide) rfl (fun ls hl => ?_)
    have loop_57 : gHide (∀ (n_ : Nat) (k : Nat) (f_ : Nat → Option Nat) (v4 : Int) (H : Heap) (locs : List Loc), gN S + 1 ≤ k + n_ → v4 = ((k : Nat) : Int) → (k ≤ gN S) → (kk E s H) → (GP E ad (gset S 33 0 0 1) H) → (va_S (gW (gN S) ad s.heap) s.heap H locs) → (pgK E (gset S 33 0 0 1) s.heap.size qc f_ k H) → ∀ (ls : Array Slot), lv_has ls 6 [(4, .int (iI v4)), (3, .ref qc), (2, .int (iI (gLef S))), (0, .ref (ad 6 0)), (1, .int (iI t))] → W P_ l e_ (gR 8 8 40) s M_ ([.ref (ad 6 0), .int (iI t)] : List Value).toArray bl mt_ c_ H locs (2 + k) (11 + 4 * k) (vx_MQ bl (gQi (gW (gN S) ad s.heap) (fun z H1 => erR S t = 0 ∧ z = gLef (sRun (gset S 33 0 0 1) t.toNat) - gLef S ∧ GP E ad (sRun (gset S 33 0 0 1) t.toNat) H1)) (gXD (xC (erR S t) [nAr, nSt])) ([.ref (ad 6 0), .int (iI t)] : List Value).toArray s 8 40 (gW (gN S) ad s.heap)) (F0 M_ 57 ls [])) := by
      intro n_
      induction n_ with
      | zero => intro k f_ v4 H locs hb_ e_v4 hkb hk hP hS hQ ls hl; exact absurd hb_ (by omega)
      | succ n_ ih_57 =>
        replace ih_57 := gHide.mk ih_57
        intro k f_ v4 H locs hb_ e_v4 hkb hk hP hS hQ ls hl
        subst e_v4
        have hl : lv_has ls 6 [(4, .int (iI ((k : Nat) : Int))), (3, .ref qc), (2, .int (iI (gLef S))), (0, .ref (ad 6 0)), (1, .int (iI t))] := hl
        refine g_iload X dX1_run_57 hl 0 rfl ?_
        refine g_aload_n X dX1_run_59 rfl hl 3 rfl ?_
        refine g_get X hk (v := .ref (ad 7 0)) in_X1 rfl (GP.X hP) 0 (by decide) q142 (rfl) dX1_run_60 ?_
        refine g_alenQ X hk (n := (gN S)) (GP.Q (S := (gset S 33 0 0 1)) hP) rfl dX1_run_63 ?_
        refine g_icmp_ge X dX1_run_64 (tgt := 87) (by decide) (by omega) (fun c64 => ?_) (fun c64 => ?_)
        · have ek87 : k = gN S := by omega
          have hQ : pgK E (gset S 33 0 0 1) s.heap.size qc f_ (gN S) H := by rw [← ek87]; exact hQ
          refine W.widen (k := 7) (n := 31) (by omega) (by omega) ?_
          skip
          refine g_iconst X dX1_run_87 ?_
          refine g_istore (lv' := [(4, .int (iI 0)), (3, .ref qc), (2, .int (iI (gLef S))), (0, .ref (ad 6 0)), (1, .int (iI t))]) X dX1_run_88 hl (by decide) rfl (fun ls hl => ?_)
          have loop_90 : gHide (∀ (n_ : Nat) (k : Nat) (v4 : Int) (H : Heap) (locs : List Loc), t.toNat + 1 ≤ k + n_ → v4 = ((k : Nat) : Int) → ((k : Int) ≤ t) → (kk E s H) → (GP E ad (sRun (gset S 33 0 0 1) k) H) → (va_S (gW (gN S) ad s.heap) s.heap H locs) → (pgK E (gset S 33 0 0 1) s.heap.size qc f_ (gN S) H) → ∀ (ls : Array Slot), lv_has ls 6 [(4, .int (iI v4)), (3, .ref qc), (2, .int (iI (gLef S))), (0, .ref (ad 6 0)), (1, .int (iI t))] → W P_ l e_ (gR 8 8 40) s M_ ([.ref (ad 6 0), .int (iI t)] : List Value).toArray bl mt_ c_ H locs 7 31 (vx_MQ bl (gQi (gW (gN S) ad s.heap) (fun z H1 => erR S t = 0 ∧ z = gLef (sRun (gset S 33 0 0 1) t.toNat) - gLef S ∧ GP E ad (sRun (gset S 33 0 0 1) t.toNat) H1)) (gXD (xC (erR S t) [nAr, nSt])) ([.ref (ad 6 0), .int (iI t)] : List Value).toArray s 8 40 (gW (gN S) ad s.heap)) (F0 M_ 90 ls [])) := by
            intro n_
            induction n_ with
            | zero => intro k v4 H locs hb_ e_v4 hkb hk hP hS hQ ls hl; exact absurd hb_ (by omega)
            | succ n_ ih_90 =>
              replace ih_90 := gHide.mk ih_90
              intro k v4 H locs hb_ e_v4 hkb hk hP hS hQ ls hl
              subst e_v4
              have hl : lv_has ls 6 [(4, .int (iI ((k : Nat) : Int))), (3, .ref qc), (2, .int (iI (gLef S))), (0, .ref (ad 6 0)), (1, .int (iI t))] := hl
              obtain ⟨Mk, hGk⟩ := RG_Run (t := t.toNat) hI1 hG0 (by show gNow S + _ ≤ 7200; omega) k (by omega)
              have hnR : gN (sRun (gset S 33 0 0 1) k) = gN S := (sRun_dy (gset S 33 0 0 1) k).n
              refine g_iload X dX1_run_90 hl 0 rfl ?_
              refine g_iload_n X dX1_run_92 rfl hl 4 rfl ?_
              refine g_icmp_ge X dX1_run_93 (tgt := 141) (by decide) (by omega) (fun c93 => ?_) (fun c93 => ?_)
              · refine g_aload_n X dX1_run_141 rfl hl 3 rfl ?_
                refine g_get X hk (v := .int (iI (gLef (sRun (gset S 33 0 0 1) k)))) in_X1 rfl (GP.X hP) 5 (by decide) q147 (rfl) dX1_run_142 ?_
                refine g_iload_n X dX1_run_145 rfl hl 2 rfl ?_
                refine g_isub X dX1_run_146 ?_
                exact vx_ret (g_iret X hS (⟨hz, by rw [show t.toNat = k by omega], by rw [show t.toNat = k by omega]; exact hP⟩) ⟨Nat.le_of_ble_eq_true rfl, Nat.le_of_ble_eq_true rfl⟩ dX1_run_147)
              · refine g_iconst X dX1_run_96 ?_
                refine g_istore (lv' := [(5, .int (iI 0)), (4, .int (iI ((k : Nat) : Int))), (3, .ref qc), (2, .int (iI (gLef S))), (0, .ref (ad 6 0)), (1, .int (iI t))]) X dX1_run_97 hl (by decide) rfl (fun ls hl => ?_)
                have loop_99 : gHide (∀ (n_ : Nat) (j : Nat) (v5 : Int) (H : Heap) (locs : List Loc), gN S + 1 ≤ j + n_ → v5 = ((j : Nat) : Int) → (j ≤ gN S) → (kk E s H) → (GP E ad (sK (sRun (gset S 33 0 0 1) k) j) H) → (va_S (gW (gN S) ad s.heap) s.heap H locs) → (pgK E (gset S 33 0 0 1) s.heap.size qc f_ (gN S) H) → ∀ (ls : Array Slot), lv_has ls 6 [(5, .int (iI v5)), (4, .int (iI ((k : Nat) : Int))), (3, .ref qc), (2, .int (iI (gLef S))), (0, .ref (ad 6 0)), (1, .int (iI t))] → W P_ l e_ (gR 8 8 40) s M_ ([.ref (ad 6 0), .int (iI t)] : List Value).toArray bl mt_ c_ H locs 7 31 (vx_MQ bl (gQi (gW (gN S) ad s.heap) (fun z H1 => erR S t = 0 ∧ z = gLef (sRun (gset S 33 0 0 1) t.toNat) - gLef S ∧ GP E ad (sRun (gset S 33 0 0 1) t.toNat) H1)) (gXD (xC (erR S t) [nAr, nSt])) ([.ref (ad 6 0), .int (iI t)] : List Value).toArray s 8 40 (gW (gN S) ad s.heap)) (F0 M_ 99 ls [])) := by
                  intro n_
                  induction n_ with
                  | zero => intro j v5 H locs hb_ e_v5 hjb hk hP hS hQ ls hl; exact absurd hb_ (by omega)
                  | succ n_ ih_99 =>
                    replace ih_99 := gHide.mk ih_99
                    intro j v5 H locs hb_ e_v5 hjb hk hP hS hQ ls hl
                    subst e_v5
                    have hl : lv_has ls 6 [(5, .int (iI ((j : Nat) : Int))), (4, .int (iI ((k : Nat) : Int))), (3, .ref qc), (2, .int (iI (gLef S))), (0, .ref (ad 6 0)), (1, .int (iI t))] := hl
                    have hnK : gN (sK (sRun (gset S 33 0 0 1) k) j) = gN S := ((sK_dy (sRun (gset S 33 0 0 1) k) j).n).trans hnR
                    refine g_iload X dX1_run_99 hl 0 rfl ?_
                    refine g_aload_n X dX1_run_101 rfl hl 4 rfl ?_
                    refine g_get X hk (v := .ref (ad 7 0)) in_X1 rfl (GP.X hP) 0 (by decide) q142 (rfl) dX1_run_102 ?_
                    refine g_alenQ X hk (n := (gN (sK (sRun (gset S 33 0 0 1) k) j))) (GP.Q hP) rfl dX1_run_105 ?_
                    refine g_icmp_ge X dX1_run_106 (tgt := 125) (by decide) (by omega) (fun c106 => ?_) (fun c106 => ?_)
                    · have ej : j = gN S := by omega
                      have hnk : gNow (sK (sRun (gset S 33 0 0 1) k) j) = gNow S + (k : Int) := by rw [sK_now, sRun_now]; rfl
                      refine g_aload_n X dX1_run_125 rfl hl 4 rfl ?_
                      refine g_dup X dX1_run_126 rfl ?_
                      refine g_get X hk (v := .int (iI (gNow (sK (sRun (gset S 33 0 0 1) k) j)))) in_X1 rfl (GP.X hP) 2 (by decide) q144 (rfl) dX1_run_127 ?_
                      refine g_iconst X dX1_run_130 ?_
                      refine g_iadd X dX1_run_131 ?_
                      refine g_put X hk hS ⟨Or.inl ⟨6, 0, gv_6, rfl⟩, hP.2.2 _ _ gv_6⟩ in_X1 tyX1 tyX1_ok nmX1 rfl (GP.X hP) 2 (by decide) q144 rfl (ty := .int) (by decide +kernel) (rfl) rfl (Nat.le_of_ble_eq_true rfl) dX1_run_132 (fun H locs hc_ hk hz_ ho_ hS => ?_)
                      have lk_ := lk_put (s0 := s.heap.size) (H := _) hA0_ gv_6 ho_
                      have hP : GP E ad (gset (sK (sRun (gset S 33 0 0 1) k) j) 32 0 0 ((gNow (sK (sRun (gset S 33 0 0 1) k) j)) + 1)) H := GP.putX hP 2 rfl hc_ ho_
                      have hQ := hQ.kp lk_
                      refine g_iinc (lv' := [(4, .int (iI (((k : Nat) : Int) + 1))), (5, .int (iI ((j : Nat) : Int))), (3, .ref qc), (2, .int (iI (gLef S))), (0, .ref (ad 6 0)), (1, .int (iI t))]) X dX1_run_135 hl (k := 1) rfl (by decide) rfl (fun ls hl => ?_)
                      refine g_goto X dX1_run_138 (tgt := 90) (by decide) ?_
                      have hPn : GP E ad (sRun (gset S 33 0 0 1) (k + 1)) H := by
                        have e8 : gN (sRun (gset S 33 0 0 1) k) = j := by rw [(sRun_dy (gset S 33 0 0 1) k).n]; exact ej.symm
                        show GP E ad (gset (sK (sRun (gset S 33 0 0 1) k) (gN (sRun (gset S 33 0 0 1) k))) 32 0 0 (gNow (sK (sRun (gset S 33 0 0 1) k) (gN (sRun (gset S 33 0 0 1) k))) + 1)) H
                        rw [e8]
                        exact hP
                      exact ih_90.out (k + 1) (((k : Nat) : Int) + 1) H locs (by omega) (by omega) (by omega) hk hPn hS hQ _ (lv_sub hl [0, 2, 3, 4, 5] rfl)
                    · refine g_aload_n X dX1_run_109 rfl hl 4 rfl ?_
                      refine g_iload X dX1_run_110 hl 0 rfl ?_
                      refine g_aload_n X dX1_run_112 rfl hl 2 rfl ?_
                      refine g_iload X dX1_run_113 hl 0 rfl ?_
                      obtain ⟨ra, hf1, hra, hne, hrow⟩ := hQ.2.2 j (by omega)
                      refine g_aald X hk (j := j) (n := gN (gset S 33 0 0 1)) (q := ra) hQ.2.1 (cA := 4) rfl rfl rfl (by show j < gN S ∧ gN S ≤ 2147483647; omega) hf1 dX1_run_115 ?_
                      obtain ⟨Mj, hGj⟩ := RG_K hI1 hGk j (by show j ≤ gN S; omega)
                      obtain ⟨Mh, hGh⟩ := RG_head hI1 (by show j < gN S; omega) hGj
                      have hdk := hGj.1
                      have egr : grn (sK (sRun (gset S 33 0 0 1) k) j) j = grn (gset S 33 0 0 1) j := by funext p; exact dy_grn hdk j p
                      refine g_callv (g_runV X hk (As := [.int (iI ((j : Nat) : Int)), .ref ra]) (rest := []) rfl (GP.X hP) (p_step l E ad (sK (sRun (gset S 33 0 0 1) k) j) (gset S 33 0 0 1) Mj Mh H hP hI1 j (by rw [hdk.n]; show j < gN S; omega) hGj hGh ra (by rw [hdk.np, egr]; exact hrow) (fun k i hv => by rw [hdk.n] at hv; have := hA0_ k i hv; omega) (by rw [hdk.np, egr]; intro i hi; have := grn_b hI1 (show j < gN (gset S 33 0 0 1) by show j < gN S; omega) (hL1 j (by omega)) hi; omega)) 2 (lw_V q525 q527 qs12 q46 q528) (by decide +kernel) ⟨⟨Nat.le_of_ble_eq_true rfl, Nat.le_of_ble_eq_true rfl⟩, Nat.le_of_ble_eq_true rfl, Nat.le_of_ble_eq_true rfl⟩ rfl rfl hl.1 (Nat.le_of_ble_eq_true rfl) dX1_run_116) hk hS (fun q h => by rw [hnK] at h; exact h.elim Or.inl (fun z => Or.inr (Nat.le_trans hS.1 z))) (GP.N hP hk.N) (fun H locs hP_ hk hz_ ho_ hS => ?_)
                      rw [hnK] at ho_
                      have lk_ := lk_W hA0_ ho_
                      have hP := hP_
                      have hQ := hQ.kp lk_
                      refine g_iinc (lv' := [(5, .int (iI (((j : Nat) : Int) + 1))), (4, .int (iI ((k : Nat) : Int))), (3, .ref qc), (2, .int (iI (gLef S))), (0, .ref (ad 6 0)), (1, .int (iI t))]) X dX1_run_119 hl (k := 0) rfl (by decide) rfl (fun ls hl => ?_)
                      refine g_goto X dX1_run_122 (tgt := 99) (by decide) ?_
                      exact ih_99.out (j + 1) (((j : Nat) : Int) + 1) H locs (by omega) (by omega) (by omega) hk hP hS hQ _ (lv_sub hl [0, 1, 2, 3, 4, 5] rfl)
                exact loop_99.out (gN S + 1) 0 0 H locs (by omega) (rfl) (by omega) hk hP hS hQ _ (lv_sub hl [0, 1, 2, 3, 4, 5] rfl)
          exact loop_90.out (t.toNat + 1) 0 0 H locs (by omega) (rfl) (by omega) hk hP hS hQ _ (lv_sub hl [0, 1, 2, 3, 4] rfl)
        · refine g_aload_n X dX1_run_67 rfl hl 1 rfl ?_
          refine g_iload X dX1_run_68 hl 0 rfl ?_
          refine g_aload_n X dX1_run_70 rfl hl 3 rfl ?_
          refine g_get X hk (v := .ref (ad 7 0)) in_X1 rfl (GP.X hP) 0 (by decide) q142 (rfl) dX1_run_71 ?_
          refine g_iload X dX1_run_74 hl 0 rfl ?_
          refine g_aald X hk (j := k) (n := (gN S)) (q := (ad 0 k)) (GP.Q (S := (gset S 33 0 0 1)) hP) (cA := 1) rfl rfl (rfl) (by omega) (rfl) dX1_run_76 ?_
          have hLk := hL1 k (by omega)
          have hQo := hQ
          have hs0_ := hS.1
          refine g_callr (g_runV X hk (As := []) (rest := [.int (iI ((k : Nat) : Int)), .ref qc]) rfl (GP.J hP (by omega)) (p_greens l E ad (gset S 33 0 0 1) H hP hI1 k (by omega) (hLk)) 0 (lw_V q421 q422 q423 q47 q424) (by decide +kernel) ⟨⟨Nat.le_of_ble_eq_true rfl, Nat.le_of_ble_eq_true rfl⟩, by show (2 + k) + 1 ≤ 8; omega, by show (11 + 4 * k) + 4 ≤ 40; omega⟩ rfl rfl hl.1 (Nat.le_of_ble_eq_true rfl) dX1_run_77) hk hS (fun q h => Or.inr (Nat.le_trans hS.1 h)) (fun q h => Nat.le_trans hk.N h) (fun q H locs hP_ hk hz_ ho_ hS => ?_)
          replace ho_ := lk_nA (fun q h => h) ho_
          obtain ⟨hG_0, hG⟩ := hP_
          have hG_g : s.heap.size ≤ q := by omega
          have lk_ := lk_new (s0 := s.heap.size) ho_
          have hP := GP.new hP ho_
          have hQ := hQ.kp lk_
          have hqne : q ≠ qc := by have := hQo.2.1.lt; omega
          have hsz_ := hG.lt
          refine g_aastA X hk hS (cA := 4) (cI := 0) (t := .int) ⟨Or.inr hQ.1, Nat.le_trans hN0 hQ.1⟩ hQ.2.1 hk.2.2.1 (hk.K.2 0 _ rfl).1 hG (j := k) rfl (by omega) dX1_run_80 (fun H locs hc_ hk hz_ ho_ hS => ?_)
          have hQ := hQ.step ⟨hG_g, by omega⟩ hG hc_ ho_
          have hP := GP.loc hP hA0_ hQ.1 ho_
          refine g_iinc (lv' := [(4, .int (iI (((k : Nat) : Int) + 1))), (3, .ref qc), (2, .int (iI (gLef S))), (0, .ref (ad 6 0)), (1, .int (iI t))]) X dX1_run_81 hl (k := 0) rfl (by decide) rfl (fun ls hl => ?_)
          refine g_goto X dX1_run_84 (tgt := 57) (by decide) ?_
          refine W.widen (k := 2 + (k + 1)) (n := 11 + 4 * (k + 1)) (by omega) (by omega) ?_
          exact ih_57.out (k + 1) (va_up f_ k (some q)) (((k : Nat) : Int) + 1) H locs (by omega) (by omega) (by omega) hk hP hS hQ _ (lv_sub hl [0, 1, 2, 3, 4] rfl)
    refine W.widen (k := 2 + 0) (n := 11 + 4 * 0) (by omega) (by omega) ?_
    exact loop_57.out (gN S + 1) 0 (fun _ => none) 0 H locs (by omega) (rfl) (by omega) hk hP hS hQ _ (lv_sub hl [0, 1, 2, 3, 4] rfl)
  refine g_aload_n X dX1_run_15 rfl hl 0 rfl ?_
  refine g_get X hk (v := .int (iI (gNow S))) in_X1 rfl (GP.X hP) 2 (by decide) q144 (rfl) dX1_run_16 ?_
  refine g_iload_n X dX1_run_19 rfl hl 1 rfl ?_
  refine g_iadd X dX1_run_20 ?_
  refine g_sipush X dX1_run_21 rfl ?_
  refine g_icmp_gt X dX1_run_24 (tgt := 31) (by decide) (by omega) (fun c24 => ?_) (fun c24 => ?_)
  · refine g_iconst X dX1_run_31 ?_
    exact join_32.out 0 _ (by grind [bZ]) (lv_sub hl [0, 1] rfl)
  · refine g_iconst X dX1_run_27 ?_
    refine g_goto X dX1_run_28 (tgt := 32) (by decide) ?_
    exact join_32.out 1 _ (by grind [bZ]) (lv_sub hl [0, 1] rfl)
