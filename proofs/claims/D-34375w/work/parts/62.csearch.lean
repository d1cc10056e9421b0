/-! the corridor: breaches, offsets sought -/
def bgK (E : EP) (S : GS) (j s0 q : Nat) (f : Nat → Option Nat) (k : Nat) (H : Heap) : Prop := s0 ≤ q ∧ ce E q (aQ E 5 4 f) H ∧ ∀ i, i < k → ∃ a, f i = some a ∧ s0 ≤ a ∧ a ≠ q ∧ ce E a (aB E (gCyc S).toNat (fun p => bZ (gAtP S j (i : Int) (p : Int)))) H
section BG
variable {E : EP} {S : GS} {j s0 q : Nat} {f : Nat → Option Nat} {k : Nat} {H H1 : Heap}
theorem bgK.kp (h : bgK E S j s0 q f k H) (o : lkS s0 H H1) : bgK E S j s0 q f k H1 :=
  ⟨h.1, h.2.1.kept (o q h.1 h.2.1.lt), fun i hi => by
    obtain ⟨a, e1, e2, e3, e4⟩ := h.2.2 i hi
    exact ⟨a, e1, e2, e3, e4.kept (o a e2 e4.lt)⟩⟩
theorem bgK.step {a : Nat} (h : bgK E S j s0 q f k H) (ha : s0 ≤ a ∧ a ≠ q) (hr : ce E a (aB E (gCyc S).toNat (fun p => bZ (gAtP S j (k : Int) (p : Int)))) H) (hq : ce E q (aQ E 5 4 (va_up f k (some a))) H1) (o : ∀ x : Nat, x ≠ q → H1[x]? = H[x]?) : bgK E S j s0 q (va_up f k (some a)) (k + 1) H1 := by
  refine ⟨h.1, hq, fun i hi => ?_⟩
  by_cases e : i = k
  · subst e
    exact ⟨a, by simp [va_up], ha.1, ha.2, hr.kept (o a ha.2)⟩
  · obtain ⟨a2, e1, e2, e3, e4⟩ := h.2.2 i (by omega)
    exact ⟨a2, by simp [va_up, e, e1], e2, e3, e4.kept (o a2 e3)⟩
end BG
/-- how many places have a clearance broken: the first k -/
def bpK (S : GS) (j : Nat) : Nat → Int
  | 0 => 0
  | k + 1 => bpK S j k + bZ (brK S j (k : Int) 16)
theorem bpK_b (S : GS) (j : Nat) : ∀ k : Nat, 0 ≤ bpK S j k ∧ bpK S j k ≤ (k : Int) := by
  intro k
  induction k with
  | zero => simp [bpK]
  | succ k ih =>
    have := bZ_le (brK S j (k : Int) 16)
    simp only [bpK]
    omega
set_option maxHeartbeats 4000000 in
theorem p_breaches (l : Launch) (E : EP) (hst : l.stackTraces = false) (ad : Nat → Nat → Nat) (S : GS) (j : Int) (H : Heap) (hP : GP E ad S H) (hI : gI S) (hj : -2147483648 ≤ j ∧ j ≤ 2147483647) : gCi l E yX1_breaches cX1_breaches 9 .int 9 11 400 H [.ref (ad 6 0), .int (iI j)] (nA H) (fun z H1 => erN S j = 0 ∧ z = bpK S (j.toNat) (gCyc S).toNat ∧ GP E ad S H1) (xC (erN S j) [nIx, nSt]) := by
  refine g_metX (by decide) (Nat.le_of_ble_eq_true rfl) (fun P_ e_ s M_ bl mt_ c_ ls X hno_ hk hh hl => ?_)
  subst hh
  have X : gX P_ s M_ mt_ c_ cX1_breaches 9 ([.ref (ad 6 0), .int (iI j)] : List Value).toArray RX1 (some .int) := X
  have hl : lv_has ls 9 [(0, .ref (ad 6 0)), (1, .int (iI j))] := hl
  have hS : va_S (nA s.heap) s.heap s.heap [] := va_S.rf
  have hN0 : eN E ≤ s.heap.size := hk.N
  have hA0_ := GP.lts hP
  have hn5 := hI.1.1
  have hc := hI.2.1
  refine g_aload_n X dX1_breaches_0 rfl hl 0 rfl ?_
  refine g_iload_n X dX1_breaches_1 rfl hl 1 rfl ?_
  refine g_xcallrE (g_xrunV X hk (As := [.int (iI j)]) (rest := []) rfl (GP.X hP) (p_planned l E hst ad S j s.heap hP hI (by omega)) 1 (lw_V q468 q470 qs11 q46 q471) (by decide +kernel) ⟨⟨Nat.le_of_ble_eq_true rfl, Nat.le_of_ble_eq_true rfl⟩, Nat.le_of_ble_eq_true rfl, Nat.le_of_ble_eq_true rfl⟩ rfl rfl hl.1 (Nat.le_of_ble_eq_true rfl) dX1_breaches_2) X hno_ hk hS (fun q h => Nat.le_trans hS.1 h) (fun q h => Nat.le_trans hk.N h) (fun q h => h) (fun Ex h => h) ⟨Nat.le_of_ble_eq_true rfl, Nat.le_of_ble_eq_true rfl⟩ (fun locs hB2 hS => ?_)
  have hj1 : (j).toNat < gN S := by omega
  refine g_astore_n (lv' := [(2, .ref (ad 0 ((j).toNat))), (0, .ref (ad 6 0)), (1, .int (iI j))]) X dX1_breaches_5 rfl hl (by decide) rfl (fun ls hl => ?_)
  have hL := hB2.2
  refine g_iconst X dX1_breaches_6 ?_
  have hs0_ := hS.1
  refine g_newA X hk hS (cA := 5) (t := .boolean) q415 hk.ev.2.2.2.2.2.2.2 rfl (N := 4) (by first | rfl | omega) (by omega) ⟨Nat.le_of_ble_eq_true rfl, Nat.le_of_ble_eq_true rfl⟩ dX1_breaches_7 (fun qm H hq_ hc_ hk hz_ ho_ hS => ?_)
  have hC : ce E qm (aQ E 5 4 (fun _ => none)) H := hc_
  have hC_g : s.heap.size ≤ qm := by omega
  have lk_ := lk_new (s0 := s.heap.size) ho_
  have hP := GP.new hP ho_
  have hQ : bgK E S (j.toNat) s.heap.size qm (fun _ => none) 0 H := ⟨hC_g, hC, fun i hi => absurd hi (Nat.not_lt_zero i)⟩
  skip
  refine g_astore_n (lv' := [(3, .ref qm), (2, .ref (ad 0 ((j).toNat))), (0, .ref (ad 6 0)), (1, .int (iI j))]) X dX1_breaches_10 rfl hl (by decide) rfl (fun ls hl => ?_)
  refine g_iconst X dX1_breaches_11 ?_
  refine g_istore (lv' := [(4, .int (iI 0)), (3, .ref qm), (2, .ref (ad 0 ((j).toNat))), (0, .ref (ad 6 0)), (1, .int (iI j))]) X dX1_breaches_12 hl (by decide) rfl (fun ls hl => ?_)
  have loop_14 : gHide (∀ (n_ : Nat) (m : Nat) (f_ : Nat → Option Nat) (v4 : Int) (H : Heap) (locs : List Loc), 5 ≤ m + n_ → v4 = ((m : Nat) : Int) → (m ≤ 4) → (kk E s H) → (GP E ad S H) → (va_S (nA s.heap) s.heap H locs) → (bgK E S (j.toNat) s.heap.size qm f_ m H) → ∀ (ls : Array Slot), lv_has ls 9 [(4, .int (iI v4)), (3, .ref qm), (2, .ref (ad 0 ((j).toNat))), (0, .ref (ad 6 0)), (1, .int (iI j))] → W P_ l e_ (gR 9 11 400) s M_ ([.ref (ad 6 0), .int (iI j)] : List Value).toArray bl mt_ c_ H locs (3 + 2 * m) (16 + 94 * m) (vx_MQ bl (gQi (nA s.heap) (fun z H1 => erN S j = 0 ∧ z = bpK S (j.toNat) (gCyc S).toNat ∧ GP E ad S H1)) (gXD (xC (erN S j) [nIx, nSt])) ([.ref (ad 6 0), .int (iI j)] : List Value).toArray s 11 400 (nA s.heap)) (F0 M_ 14 ls [])) := by
    intro n_
    induction n_ with
    | zero => intro m f_ v4 H locs hb_ e_v4 hmb hk hP hS hQ ls hl; exact absurd hb_ (by omega)
    | succ n_ ih_14 =>
      replace ih_14 := gHide.mk ih_14
      intro m f_ v4 H locs hb_ e_v4 hmb hk hP hS hQ ls hl
      subst e_v4
      have hl : lv_has ls 9 [(4, .int (iI ((m : Nat) : Int))), (3, .ref qm), (2, .ref (ad 0 ((j).toNat))), (0, .ref (ad 6 0)), (1, .int (iI j))] := hl
      refine g_iload X dX1_breaches_14 hl 0 rfl ?_
      refine g_iconst X dX1_breaches_16 ?_
      refine g_icmp_ge X dX1_breaches_17 (tgt := 37) (by decide) (by omega) (fun c17 => ?_) (fun c17 => ?_)
      · have em : m = 4 := by omega
        have hQ : bgK E S (j.toNat) s.heap.size qm f_ 4 H := by rw [← em]; exact hQ
        refine W.widen (k := 11) (n := 392) (by omega) (by omega) ?_
        skip
        refine g_iconst X dX1_breaches_37 ?_
        refine g_istore (lv' := [(4, .int (iI 0)), (3, .ref qm), (2, .ref (ad 0 ((j).toNat))), (0, .ref (ad 6 0)), (1, .int (iI j))]) X dX1_breaches_38 hl (by decide) rfl (fun ls hl => ?_)
        refine g_iconst X dX1_breaches_40 ?_
        refine g_istore (lv' := [(5, .int (iI 0)), (4, .int (iI 0)), (3, .ref qm), (2, .ref (ad 0 ((j).toNat))), (0, .ref (ad 6 0)), (1, .int (iI j))]) X dX1_breaches_41 hl (by decide) rfl (fun ls hl => ?_)
        have loop_43 : gHide (∀ (n_ : Nat) (pl : Nat) (v5 : Int) (v4 : Int), (gCyc S).toNat + 1 ≤ pl + n_ → v5 = ((pl : Nat) : Int) → v4 = (bpK S (j.toNat) pl) → ((pl : Int) ≤ gCyc S) → ∀ (ls : Array Slot), lv_has ls 9 [(5, .int (iI v5)), (4, .int (iI v4)), (3, .ref qm), (2, .ref (ad 0 ((j).toNat))), (0, .ref (ad 6 0)), (1, .int (iI j))] → W P_ l e_ (gR 9 11 400) s M_ ([.ref (ad 6 0), .int (iI j)] : List Value).toArray bl mt_ c_ H locs 11 392 (vx_MQ bl (gQi (nA s.heap) (fun z H1 => erN S j = 0 ∧ z = bpK S (j.toNat) (gCyc S).toNat ∧ GP E ad S H1)) (gXD (xC (erN S j) [nIx, nSt])) ([.ref (ad 6 0), .int (iI j)] : List Value).toArray s 11 400 (nA s.heap)) (F0 M_ 43 ls [])) := by
          intro n_
          induction n_ with
          | zero => intro pl v5 v4 hb_ e_v5 e_v4 hpb ls hl; exact absurd hb_ (by omega)
          | succ n_ ih_43 =>
            replace ih_43 := gHide.mk ih_43
            intro pl v5 v4 hb_ e_v5 e_v4 hpb ls hl
            subst e_v5
            subst e_v4
            have hl : lv_has ls 9 [(5, .int (iI ((pl : Nat) : Int))), (4, .int (iI (bpK S (j.toNat) pl))), (3, .ref qm), (2, .ref (ad 0 ((j).toNat))), (0, .ref (ad 6 0)), (1, .int (iI j))] := hl
            have hbp := bpK_b S (j.toNat) pl
            refine g_iload X dX1_breaches_43 hl 0 rfl ?_
            refine g_aload_n X dX1_breaches_45 rfl hl 4 rfl ?_
            refine g_get X hk (v := .int (iI (gCyc S))) in_X1 rfl (GP.X hP) 1 (by decide) q143 (rfl) dX1_breaches_46 ?_
            refine g_icmp_ge X dX1_breaches_49 (tgt := 157) (by decide) (by omega) (fun c49 => ?_) (fun c49 => ?_)
            · refine g_iload X dX1_breaches_157 hl 1 rfl ?_
              exact vx_ret (g_iret X hS (⟨by unfold erN; rw [if_neg (fun q => q hB2.1), if_pos hL], by rw [show (gCyc S).toNat = pl by omega], hP⟩) ⟨Nat.le_of_ble_eq_true rfl, Nat.le_of_ble_eq_true rfl⟩ dX1_breaches_159)
            · refine g_iconst X dX1_breaches_52 ?_
              refine g_istore (lv' := [(6, .int (iI 0)), (5, .int (iI ((pl : Nat) : Int))), (4, .int (iI (bpK S (j.toNat) pl))), (3, .ref qm), (2, .ref (ad 0 ((j).toNat))), (0, .ref (ad 6 0)), (1, .int (iI j))]) X dX1_breaches_53 hl (by decide) rfl (fun ls hl => ?_)
              refine g_iconst X dX1_breaches_55 ?_
              refine g_istore (lv' := [(7, .int (iI 0)), (6, .int (iI 0)), (5, .int (iI ((pl : Nat) : Int))), (4, .int (iI (bpK S (j.toNat) pl))), (3, .ref qm), (2, .ref (ad 0 ((j).toNat))), (0, .ref (ad 6 0)), (1, .int (iI j))]) X dX1_breaches_56 hl (by decide) rfl (fun ls hl => ?_)
              have loop_58 : gHide (∀ (n_ : Nat) (k : Nat) (v7 : Int) (v6 : Int), 17 ≤ k + n_ → v7 = ((k : Nat) : Int) → v6 = (bZ (brK S (j.toNat) ((pl : Nat) : Int) k)) → (k ≤ 16) → ∀ (ls : Array Slot), lv_has ls 9 [(7, .int (iI v7)), (6, .int (iI v6)), (5, .int (iI ((pl : Nat) : Int))), (4, .int (iI (bpK S (j.toNat) pl))), (3, .ref qm), (2, .ref (ad 0 ((j).toNat))), (0, .ref (ad 6 0)), (1, .int (iI j))] → W P_ l e_ (gR 9 11 400) s M_ ([.ref (ad 6 0), .int (iI j)] : List Value).toArray bl mt_ c_ H locs 11 392 (vx_MQ bl (gQi (nA s.heap) (fun z H1 => erN S j = 0 ∧ z = bpK S (j.toNat) (gCyc S).toNat ∧ GP E ad S H1)) (gXD (xC (erN S j) [nIx, nSt])) ([.ref (ad 6 0), .int (iI j)] : List Value).toArray s 11 400 (nA s.heap)) (F0 M_ 58 ls [])) := by
                intro n_
                induction n_ with
                | zero => intro k v7 v6 hb_ e_v7 e_v6 hkb ls hl; exact absurd hb_ (by omega)
                | succ n_ ih_58 =>
                  replace ih_58 := gHide.mk ih_58
                  intro k v7 v6 hb_ e_v7 e_v6 hkb ls hl
                  subst e_v7
                  subst e_v6
                  have hl : lv_has ls 9 [(7, .int (iI ((k : Nat) : Int))), (6, .int (iI (bZ (brK S (j.toNat) ((pl : Nat) : Int) k)))), (5, .int (iI ((pl : Nat) : Int))), (4, .int (iI (bpK S (j.toNat) pl))), (3, .ref qm), (2, .ref (ad 0 ((j).toNat))), (0, .ref (ad 6 0)), (1, .int (iI j))] := hl
                  have hz58 := bZ_le (brK S (j.toNat) ((pl : Nat) : Int) k)
                  refine g_iload X dX1_breaches_58 hl 0 rfl ?_
                  refine g_bipush X dX1_breaches_60 rfl ?_
                  refine g_icmp_ge X dX1_breaches_62 (tgt := 136) (by decide) (by omega) (fun c62 => ?_) (fun c62 => ?_)
                  · have ek : k = 16 := by omega
                    refine g_iload X dX1_breaches_136 hl 3 rfl ?_
                    have join_148 : gHide (∀ (z : Int) (ls : Array Slot), z = (bZ (brK S (j.toNat) ((pl : Nat) : Int) 16)) → lv_has ls 9 [(7, .int (iI ((k : Nat) : Int))), (6, .int (iI (bZ (brK S (j.toNat) ((pl : Nat) : Int) k)))), (5, .int (iI ((pl : Nat) : Int))), (4, .int (iI (bpK S (j.toNat) pl))), (3, .ref qm), (2, .ref (ad 0 ((j).toNat))), (0, .ref (ad 6 0)), (1, .int (iI j))] → W P_ l e_ (gR 9 11 400) s M_ ([.ref (ad 6 0), .int (iI j)] : List Value).toArray bl mt_ c_ H locs 11 392 (vx_MQ bl (gQi (nA s.heap) (fun z H1 => erN S j = 0 ∧ z = bpK S (j.toNat) (gCyc S).toNat ∧ GP E ad S H1)) (gXD (xC (erN S j) [nIx, nSt])) ([.ref (ad 6 0), .int (iI j)] : List Value).toArray s 11 400 (nA s.heap)) (F0 M_ 148 ls [.int (iI z), .int (iI (bpK S (j.toNat) pl))])) := by
                      intro z ls e_z hl
                      subst e_z
                      have hl : lv_has ls 9 [(7, .int (iI ((k : Nat) : Int))), (6, .int (iI (bZ (brK S (j.toNat) ((pl : Nat) : Int) k)))), (5, .int (iI ((pl : Nat) : Int))), (4, .int (iI (bpK S (j.toNat) pl))), (3, .ref qm), (2, .ref (ad 0 ((j).toNat))), (0, .ref (ad 6 0)), (1, .int (iI j))] := hl
                      refine g_iadd X dX1_breaches_148 ?_
                      refine g_istore (lv' := [(4, .int (iI ((bpK S (j.toNat) pl) + (bZ (brK S (j.toNat) ((pl : Nat) : Int) 16))))), (7, .int (iI ((k : Nat) : Int))), (6, .int (iI (bZ (brK S (j.toNat) ((pl : Nat) : Int) k)))), (5, .int (iI ((pl : Nat) : Int))), (3, .ref qm), (2, .ref (ad 0 ((j).toNat))), (0, .ref (ad 6 0)), (1, .int (iI j))]) X dX1_breaches_149 hl (by decide) rfl (fun ls hl => ?_)
                      refine g_iinc (lv' := [(5, .int (iI (((pl : Nat) : Int) + 1))), (4, .int (iI ((bpK S (j.toNat) pl) + (bZ (brK S (j.toNat) ((pl : Nat) : Int) 16))))), (7, .int (iI ((k : Nat) : Int))), (6, .int (iI (bZ (brK S (j.toNat) ((pl : Nat) : Int) k)))), (3, .ref qm), (2, .ref (ad 0 ((j).toNat))), (0, .ref (ad 6 0)), (1, .int (iI j))]) X dX1_breaches_151 hl (k := 3) rfl (by decide) rfl (fun ls hl => ?_)
                      refine g_goto X dX1_breaches_154 (tgt := 43) (by decide) ?_
                      exact ih_43.out (pl + 1) (((pl : Nat) : Int) + 1) ((bpK S (j.toNat) pl) + (bZ (brK S (j.toNat) ((pl : Nat) : Int) 16))) (by omega) (by omega) (rfl) (by omega) _ (lv_sub hl [0, 1, 4, 5, 6, 7] rfl)
                    refine g_iload X dX1_breaches_138 hl 1 rfl ?_
                    refine g_if_eq X dX1_breaches_140 (tgt := 147) (by decide) (by omega) (fun c140 => ?_) (fun c140 => ?_)
                    · refine g_iconst X dX1_breaches_147 ?_
                      exact join_148.out 0 _ (by grind [bZ]) (lv_sub hl [0, 1, 2, 3, 4, 5, 6, 7] rfl)
                    · refine g_iconst X dX1_breaches_143 ?_
                      refine g_goto X dX1_breaches_144 (tgt := 148) (by decide) ?_
                      exact join_148.out 1 _ (by grind [bZ]) (lv_sub hl [0, 1, 2, 3, 4, 5, 6, 7] rfl)
                  · refine g_iconst X dX1_breaches_65 ?_
                    refine g_istore (lv' := [(8, .int (iI 0)), (7, .int (iI ((k : Nat) : Int))), (6, .int (iI (bZ (brK S (j.toNat) ((pl : Nat) : Int) k)))), (5, .int (iI ((pl : Nat) : Int))), (4, .int (iI (bpK S (j.toNat) pl))), (3, .ref qm), (2, .ref (ad 0 ((j).toNat))), (0, .ref (ad 6 0)), (1, .int (iI j))]) X dX1_breaches_66 hl (by decide) rfl (fun ls hl => ?_)
                    have loop_68 : gHide (∀ (n_ : Nat) (i : Nat) (v8 : Int) (v6 : Int), (gCf S (j.toNat) k + 1).toNat + 1 ≤ i + n_ → v8 = ((i : Nat) : Int) → v6 = (bZ (brK S (j.toNat) ((pl : Nat) : Int) k || (gAtP S (j.toNat) (((k : Nat) : Int) / 4) ((pl : Nat) : Int) && brI S (j.toNat) k ((pl : Nat) : Int) i))) → ((i : Int) ≤ gCf S (j.toNat) k + 1) → ∀ (ls : Array Slot), lv_has ls 9 [(8, .int (iI v8)), (6, .int (iI v6)), (7, .int (iI ((k : Nat) : Int))), (5, .int (iI ((pl : Nat) : Int))), (4, .int (iI (bpK S (j.toNat) pl))), (3, .ref qm), (2, .ref (ad 0 ((j).toNat))), (0, .ref (ad 6 0)), (1, .int (iI j))] → W P_ l e_ (gR 9 11 400) s M_ ([.ref (ad 6 0), .int (iI j)] : List Value).toArray bl mt_ c_ H locs 11 392 (vx_MQ bl (gQi (nA s.heap) (fun z H1 => erN S j = 0 ∧ z = bpK S (j.toNat) (gCyc S).toNat ∧ GP E ad S H1)) (gXD (xC (erN S j) [nIx, nSt])) ([.ref (ad 6 0), .int (iI j)] : List Value).toArray s 11 400 (nA s.heap)) (F0 M_ 68 ls [])) := by
                      intro n_
                      induction n_ with
                      | zero => intro i v8 v6 hb_ e_v8 e_v6 hib ls hl; exact absurd hb_ (by omega)
                      | succ n_ ih_68 =>
                        replace ih_68 := gHide.mk ih_68
                        intro i v8 v6 hb_ e_v8 e_v6 hib ls hl
                        subst e_v8
                        subst e_v6
                        have hl : lv_has ls 9 [(8, .int (iI ((i : Nat) : Int))), (6, .int (iI (bZ (brK S (j.toNat) ((pl : Nat) : Int) k || (gAtP S (j.toNat) (((k : Nat) : Int) / 4) ((pl : Nat) : Int) && brI S (j.toNat) k ((pl : Nat) : Int) i))))), (7, .int (iI ((k : Nat) : Int))), (5, .int (iI ((pl : Nat) : Int))), (4, .int (iI (bpK S (j.toNat) pl))), (3, .ref qm), (2, .ref (ad 0 ((j).toNat))), (0, .ref (ad 6 0)), (1, .int (iI j))] := hl
                        have hz68 := bZ_le (brK S (j.toNat) ((pl : Nat) : Int) k || (gAtP S (j.toNat) (((k : Nat) : Int) / 4) ((pl : Nat) : Int) && brI S (j.toNat) k ((pl : Nat) : Int) i))
                        have hcfk := (hI.2.2 (j.toNat) hj1).2.1 k (by omega)
                        refine g_iload X dX1_breaches_68 hl 0 rfl ?_
                        refine g_aload_n X dX1_breaches_70 rfl hl 6 rfl ?_
                        refine g_getN X hk (v := .ref (ad 1 ((j).toNat))) (host := "Greenwave") in_X2 rfl (GP.J hP hj1) 1 (by decide) 1 rfl (rfl) dX1_breaches_71 ?_
                        refine g_iload X dX1_breaches_74 hl 2 rfl ?_
                        refine g_ialdv X hk (j := k) (n := 16) (f := (gCf S ((j).toNat))) (v := ((gCf S ((j).toNat)) k)) (GP.C hP hj1) (rfl) (by omega) (rfl) dX1_breaches_76 ?_
                        refine g_icmp_gt X dX1_breaches_77 (tgt := 130) (by decide) (by omega) (fun c77 => ?_) (fun c77 => ?_)
                        · have ei : i = (gCf S (j.toNat) k + 1).toNat := by omega
                          refine g_iinc (lv' := [(7, .int (iI (((k : Nat) : Int) + 1))), (8, .int (iI ((i : Nat) : Int))), (6, .int (iI (bZ (brK S (j.toNat) ((pl : Nat) : Int) k || (gAtP S (j.toNat) (((k : Nat) : Int) / 4) ((pl : Nat) : Int) && brI S (j.toNat) k ((pl : Nat) : Int) i))))), (5, .int (iI ((pl : Nat) : Int))), (4, .int (iI (bpK S (j.toNat) pl))), (3, .ref qm), (2, .ref (ad 0 ((j).toNat))), (0, .ref (ad 6 0)), (1, .int (iI j))]) X dX1_breaches_130 hl (k := 2) rfl (by decide) rfl (fun ls hl => ?_)
                          refine g_goto X dX1_breaches_133 (tgt := 58) (by decide) ?_
                          exact ih_58.out (k + 1) (((k : Nat) : Int) + 1) (bZ (brK S (j.toNat) ((pl : Nat) : Int) k || (gAtP S (j.toNat) (((k : Nat) : Int) / 4) ((pl : Nat) : Int) && brI S (j.toNat) k ((pl : Nat) : Int) i))) (by omega) (by omega) (by rw [ei]; rfl) (by omega) _ (lv_sub hl [0, 2, 3, 4, 5, 6, 7, 8] rfl)
                        · have join_122 : gHide (∀ (z : Int) (ls : Array Slot), z = (bZ (brK S (j.toNat) ((pl : Nat) : Int) k || (gAtP S (j.toNat) (((k : Nat) : Int) / 4) ((pl : Nat) : Int) && brI S (j.toNat) k ((pl : Nat) : Int) (i + 1)))) → lv_has ls 9 [(8, .int (iI ((i : Nat) : Int))), (6, .int (iI (bZ (brK S (j.toNat) ((pl : Nat) : Int) k || (gAtP S (j.toNat) (((k : Nat) : Int) / 4) ((pl : Nat) : Int) && brI S (j.toNat) k ((pl : Nat) : Int) i))))), (7, .int (iI ((k : Nat) : Int))), (5, .int (iI ((pl : Nat) : Int))), (4, .int (iI (bpK S (j.toNat) pl))), (3, .ref qm), (2, .ref (ad 0 ((j).toNat))), (0, .ref (ad 6 0)), (1, .int (iI j))] → W P_ l e_ (gR 9 11 400) s M_ ([.ref (ad 6 0), .int (iI j)] : List Value).toArray bl mt_ c_ H locs 11 392 (vx_MQ bl (gQi (nA s.heap) (fun z H1 => erN S j = 0 ∧ z = bpK S (j.toNat) (gCyc S).toNat ∧ GP E ad S H1)) (gXD (xC (erN S j) [nIx, nSt])) ([.ref (ad 6 0), .int (iI j)] : List Value).toArray s 11 400 (nA s.heap)) (F0 M_ 122 ls [.int (iI z)])) := by
                            intro z ls e_z hl
                            subst e_z
                            have hl : lv_has ls 9 [(8, .int (iI ((i : Nat) : Int))), (6, .int (iI (bZ (brK S (j.toNat) ((pl : Nat) : Int) k || (gAtP S (j.toNat) (((k : Nat) : Int) / 4) ((pl : Nat) : Int) && brI S (j.toNat) k ((pl : Nat) : Int) i))))), (7, .int (iI ((k : Nat) : Int))), (5, .int (iI ((pl : Nat) : Int))), (4, .int (iI (bpK S (j.toNat) pl))), (3, .ref qm), (2, .ref (ad 0 ((j).toNat))), (0, .ref (ad 6 0)), (1, .int (iI j))] := hl
                            refine g_istore (lv' := [(6, .int (iI (bZ (brK S (j.toNat) ((pl : Nat) : Int) k || (gAtP S (j.toNat) (((k : Nat) : Int) / 4) ((pl : Nat) : Int) && brI S (j.toNat) k ((pl : Nat) : Int) (i + 1)))))), (8, .int (iI ((i : Nat) : Int))), (7, .int (iI ((k : Nat) : Int))), (5, .int (iI ((pl : Nat) : Int))), (4, .int (iI (bpK S (j.toNat) pl))), (3, .ref qm), (2, .ref (ad 0 ((j).toNat))), (0, .ref (ad 6 0)), (1, .int (iI j))]) X dX1_breaches_122 hl (by decide) rfl (fun ls hl => ?_)
                            refine g_iinc (lv' := [(8, .int (iI (((i : Nat) : Int) + 1))), (6, .int (iI (bZ (brK S (j.toNat) ((pl : Nat) : Int) k || (gAtP S (j.toNat) (((k : Nat) : Int) / 4) ((pl : Nat) : Int) && brI S (j.toNat) k ((pl : Nat) : Int) (i + 1)))))), (7, .int (iI ((k : Nat) : Int))), (5, .int (iI ((pl : Nat) : Int))), (4, .int (iI (bpK S (j.toNat) pl))), (3, .ref qm), (2, .ref (ad 0 ((j).toNat))), (0, .ref (ad 6 0)), (1, .int (iI j))]) X dX1_breaches_124 hl (k := 1) rfl (by decide) rfl (fun ls hl => ?_)
                            refine g_goto X dX1_breaches_127 (tgt := 68) (by decide) ?_
                            exact ih_68.out (i + 1) (((i : Nat) : Int) + 1) (bZ (brK S (j.toNat) ((pl : Nat) : Int) k || (gAtP S (j.toNat) (((k : Nat) : Int) / 4) ((pl : Nat) : Int) && brI S (j.toNat) k ((pl : Nat) : Int) (i + 1)))) (by omega) (by omega) (rfl) (by omega) _ (lv_sub hl [0, 1, 2, 3, 4, 5, 6, 7, 8] rfl)
                          refine g_iload X dX1_breaches_80 hl 1 rfl ?_
                          refine g_if_ne X dX1_breaches_82 (tgt := 117) (by decide) (by omega) (fun c82 => ?_) (fun c82 => ?_)
                          · refine g_iconst X dX1_breaches_117 ?_
                            refine g_goto X dX1_breaches_118 (tgt := 122) (by decide) ?_
                            exact join_122.out 1 _ (by simp only [brI]; grind [bZ]) (lv_sub hl [0, 1, 2, 3, 4, 5, 6, 7, 8] rfl)
                          · refine g_aload_n X dX1_breaches_85 rfl hl 5 rfl ?_
                            refine g_iload X dX1_breaches_86 hl 2 rfl ?_
                            refine g_iconst X dX1_breaches_88 ?_
                            refine g_idivN X dX1_breaches_89 (by omega) ?_
                            obtain ⟨ra, hf1, hra, hne, hrow⟩ := hQ.2.2 (k / 4) (by omega)
                            refine g_aald X hk (j := k / 4) (n := 4) (q := ra) hQ.2.1 (cA := 5) rfl rfl (by omega) (by omega) hf1 dX1_breaches_90 ?_
                            refine g_iload X dX1_breaches_91 hl 3 rfl ?_
                            refine g_baldv X hk (j := pl) (n := (gCyc S).toNat) (f := (fun p : Nat => bZ (gAtP S (j.toNat) ((k / 4 : Nat) : Int) (p : Int)))) (v := (bZ (gAtP S (j.toNat) (((k : Nat) : Int) / 4) ((pl : Nat) : Int)))) hrow (rfl) (by omega) (by show bZ (gAtP S _ ((k / 4 : Nat) : Int) _) = _; rw [show ((k / 4 : Nat) : Int) = ((k : Nat) : Int) / 4 by omega]) dX1_breaches_93 ?_
                            have h94 := bZ_le (gAtP S (j.toNat) (((k : Nat) : Int) / 4) ((pl : Nat) : Int))
                            refine g_if_eq X dX1_breaches_94 (tgt := 121) (by decide) (by omega) (fun c94 => ?_) (fun c94 => ?_)
                            · refine g_iconst X dX1_breaches_121 ?_
                              exact join_122.out 0 _ (by simp only [brI]; grind [bZ]) (lv_sub hl [0, 1, 2, 3, 4, 5, 6, 7, 8] rfl)
                            · refine g_aload_n X dX1_breaches_97 rfl hl 5 rfl ?_
                              refine g_iload X dX1_breaches_98 hl 2 rfl ?_
                              refine g_iconst X dX1_breaches_100 ?_
                              refine g_iremN X dX1_breaches_101 (by omega) ?_
                              obtain ⟨ra, hf1, hra, hne, hrow⟩ := hQ.2.2 (k % 4) (by omega)
                              refine g_aald X hk (j := k % 4) (n := 4) (q := ra) hQ.2.1 (cA := 5) rfl rfl (by omega) (by omega) hf1 dX1_breaches_102 ?_
                              refine g_iload X dX1_breaches_103 hl 3 rfl ?_
                              refine g_iload X dX1_breaches_105 hl 0 rfl ?_
                              refine g_iadd X dX1_breaches_107 ?_
                              refine g_aload_n X dX1_breaches_108 rfl hl 7 rfl ?_
                              refine g_get X hk (v := .int (iI (gCyc S))) in_X1 rfl (GP.X hP) 1 (by decide) q143 (rfl) dX1_breaches_109 ?_
                              have hmo := em_b (((pl : Nat) : Int) + ((i : Nat) : Int)) (gCyc S) hc.1
                              refine g_iremN X dX1_breaches_112 (by omega) ?_
                              refine g_baldv X hk (j := ((((pl : Nat) : Int) + ((i : Nat) : Int)) % gCyc S).toNat) (n := (gCyc S).toNat) (f := (fun p : Nat => bZ (gAtP S (j.toNat) ((k % 4 : Nat) : Int) (p : Int)))) (v := (bZ (gAtP S (j.toNat) (((k : Nat) : Int) % 4) ((((pl : Nat) : Int) + ((i : Nat) : Int)) % gCyc S)))) hrow (by omega) (by omega) (by show bZ (gAtP S _ ((k % 4 : Nat) : Int) _) = _; rw [show ((k % 4 : Nat) : Int) = ((k : Nat) : Int) % 4 by omega, Int.toNat_of_nonneg hmo.1]) dX1_breaches_113 ?_
                              have h114 := bZ_le (gAtP S (j.toNat) (((k : Nat) : Int) % 4) ((((pl : Nat) : Int) + ((i : Nat) : Int)) % gCyc S))
                              refine g_if_eq X dX1_breaches_114 (tgt := 121) (by decide) (by omega) (fun c114 => ?_) (fun c114 => ?_)
                              · refine g_iconst X dX1_breaches_121 ?_
                                exact join_122.out 0 _ (by simp only [brI]; grind [bZ]) (lv_sub hl [0, 1, 2, 3, 4, 5, 6, 7, 8] rfl)
                              · refine g_iconst X dX1_breaches_117 ?_
                                refine g_goto X dX1_breaches_118 (tgt := 122) (by decide) ?_
                                exact join_122.out 1 _ (by simp only [brI]; grind [bZ]) (lv_sub hl [0, 1, 2, 3, 4, 5, 6, 7, 8] rfl)
                    have hcfk := (hI.2.2 (j.toNat) hj1).2.1 k (by omega)
                    exact loop_68.out ((gCf S (j.toNat) k + 1).toNat + 1) 0 0 (bZ (brK S (j.toNat) ((pl : Nat) : Int) k)) (by omega) (rfl) (by simp [brI]) (by omega) _ (lv_sub hl [0, 2, 1, 3, 4, 5, 6, 7, 8] rfl)
              exact loop_58.out 17 0 0 0 (by omega) (rfl) (rfl) (by omega) _ (lv_sub hl [0, 1, 2, 3, 4, 5, 6, 7] rfl)
        exact loop_43.out ((gCyc S).toNat + 1) 0 0 0 (by omega) (rfl) (rfl) (by omega) _ (lv_sub hl [0, 1, 2, 3, 4, 5] rfl)
      · refine g_aload_n X dX1_breaches_20 rfl hl 1 rfl ?_
        refine g_iload X dX1_breaches_21 hl 0 rfl ?_
        refine g_aload_n X dX1_breaches_23 rfl hl 3 rfl ?_
        refine g_aload_n X dX1_breaches_24 rfl hl 2 rfl ?_
        refine g_iload X dX1_breaches_25 hl 0 rfl ?_
        have hQo := hQ
        have hs0_ := hS.1
        refine g_callr (g_runV X hk (As := [.ref (ad 0 ((j).toNat)), .int (iI ((m : Nat) : Int))]) (rest := [.int (iI ((m : Nat) : Int)), .ref qm]) rfl (GP.X hP) (p_greensOf l E ad S H hP hI ((j).toNat) hj1 (hL) ((m : Nat) : Int)) 2 (lw_V q417 q419 qs7 q46 q420) (by decide +kernel) ⟨⟨Nat.le_of_ble_eq_true rfl, Nat.le_of_ble_eq_true rfl⟩, by show (3 + 2 * m) + 2 ≤ 11; omega, by show (16 + 94 * m) + 94 ≤ 400; omega⟩ rfl rfl hl.1 (Nat.le_of_ble_eq_true rfl) dX1_breaches_27) hk hS (fun q h => Nat.le_trans hS.1 h) (fun q h => Nat.le_trans hk.N h) (fun q27 H locs hP_ hk hz_ ho_ hS => ?_)
        replace ho_ := lk_nA (fun q h => h) ho_
        obtain ⟨h27_0, h27⟩ := hP_
        have h27_g : s.heap.size ≤ q27 := by omega
        have lk_ := lk_new (s0 := s.heap.size) ho_
        have hP := GP.new hP ho_
        have hQ := hQ.kp lk_
        have hqne : q27 ≠ qm := by have := hQo.2.1.lt; omega
        have hsz_ := h27.lt
        refine g_aastA X hk hS (cA := 5) (cI := 2) (t := .boolean) ⟨hQ.1, Nat.le_trans hN0 hQ.1⟩ hQ.2.1 hk.2.2.2.1 (hk.K.2 2 _ rfl).1 h27 (j := m) rfl (by omega) dX1_breaches_30 (fun H locs hc_ hk hz_ ho_ hS => ?_)
        have hQ := hQ.step ⟨h27_g, by omega⟩ h27 hc_ ho_
        have hP := GP.loc hP hA0_ hQ.1 ho_
        refine g_iinc (lv' := [(4, .int (iI (((m : Nat) : Int) + 1))), (3, .ref qm), (2, .ref (ad 0 ((j).toNat))), (0, .ref (ad 6 0)), (1, .int (iI j))]) X dX1_breaches_31 hl (k := 0) rfl (by decide) rfl (fun ls hl => ?_)
        refine g_goto X dX1_breaches_34 (tgt := 14) (by decide) ?_
        refine W.widen (k := 3 + 2 * (m + 1)) (n := 16 + 94 * (m + 1)) (by omega) (by omega) ?_
        exact ih_14.out (m + 1) (va_up f_ m (some q27)) (((m : Nat) : Int) + 1) H locs (by omega) (by omega) (by omega) hk hP hS hQ _ (lv_sub hl [0, 1, 2, 3, 4] rfl)
  refine W.widen (k := 3 + 2 * 0) (n := 16 + 94 * 0) (by omega) (by omega) ?_
  exact loop_14.out 5 0 (fun _ => none) 0 H locs (by omega) (rfl) (by omega) hk hP hS hQ _ (lv_sub hl [0, 1, 2, 3, 4] rfl)
