/-! the greens of a plan as a new array -/
def gr2 (S : GS) (j k : Nat) (i : Nat) : Int := if i < k then lst S j i + mor S j i else 0
def gr3 (S : GS) (j k : Nat) (i : Nat) : Int := lst S j i + mor S j i + (if i < k then 1 else 0)
theorem gr2_s (S : GS) (j k : Nat) : uI (gr2 S j k) k (lst S j k + mor S j k) = gr2 S j (k + 1) := by
  funext i
  unfold uI gr2
  by_cases h : i = k
  · subst h; rw [if_pos rfl, if_pos (by omega)]
  · rw [if_neg h]
    by_cases h2 : i < k
    · rw [if_pos h2, if_pos (by omega)]
    · rw [if_neg h2, if_neg (by omega)]
theorem gr3_s (S : GS) (j k : Nat) : uI (gr3 S j k) k (gr3 S j k k + 1) = gr3 S j (k + 1) := by
  funext i
  unfold uI gr3
  by_cases h : i = k
  · subst h; rw [if_pos rfl, if_neg (Nat.lt_irrefl i), if_pos (Nat.lt_succ_self i)]; omega
  · rw [if_neg h]
    by_cases h2 : i < k
    · rw [if_pos h2, if_pos (by omega)]
    · rw [if_neg h2, if_neg (by omega)]
theorem gr_23 {S : GS} {j i : Nat} (h : i < gNp S j) : gr2 S j (gNp S j) i = gr3 S j 0 i := by
  unfold gr2 gr3
  rw [if_pos h, if_neg (by omega)]
  omega
theorem gr_3 {S : GS} {j k i : Nat} (h : (k : Int) = rst S j) : gr3 S j k i = grn S j i := by
  unfold gr3 grn
  by_cases h2 : i < k
  · rw [if_pos h2, if_pos (by omega)]
  · rw [if_neg h2, if_neg (by omega)]
set_option maxHeartbeats 4000000 in
theorem p_greens (l : Launch) (E : EP) (ad : Nat → Nat → Nat) (S : GS) (H : Heap) (hP : GP E ad S H) (hI : gI S) (j : Nat) (hj : j < gN S) (hL : 0 ≤ lft S j) : gMr l E yX2_greens cX2_greens 7 (.array .int) 3 1 4 H [.ref (ad 0 j)] (nA H) (fun q H1 => Array.size H ≤ q ∧ ce E q (aI E (gNp S j) (grn S j)) H1) := by
  refine g_met (plainFor_of_name (by decide)) (Nat.le_of_ble_eq_true rfl) (fun P_ e_ s M_ bl mt_ c_ ls X hmeth_ hk hh hl => ?_)
  subst hh
  have X : gX P_ s M_ mt_ c_ cX2_greens 7 ([.ref (ad 0 j)] : List Value).toArray RX2 (some (.array .int)) := X
  have hl : lv_has ls 7 [(0, .ref (ad 0 j))] := hl
  have hS : va_S (nA s.heap) s.heap s.heap [] := va_S.rf
  have hN0 : eN E ≤ s.heap.size := hk.N
  have hA0_ := GP.lts hP
  have hnp := (hI.2.2 j hj).1
  have hlf := lft_b hI hj
  have hal := alw_b hI hj
  have hrs := rst_b hI hj hL
  refine g_aload_n X dX2_greens_0 rfl hl 0 rfl ?_
  refine g_pV X hk (As := []) (rest := []) rfl (GP.J hP hj) (p_left l E ad S s.heap hP hI j hj) 0 (lw_V q425 q397 q398 q47 q399) (by decide +kernel) ⟨⟨Nat.le_of_ble_eq_true rfl, Nat.le_of_ble_eq_true rfl⟩, Nat.le_of_ble_eq_true rfl, Nat.le_of_ble_eq_true rfl⟩ rfl rfl hl.1 (Nat.le_of_ble_eq_true rfl) dX2_greens_1 ?_
  refine g_istore_n (lv' := [(1, .int (iI (lft S j))), (0, .ref (ad 0 j))]) X dX2_greens_4 rfl hl (by decide) rfl (fun ls hl => ?_)
  refine g_iconst X dX2_greens_5 ?_
  refine g_istore_n (lv' := [(2, .int (iI 0)), (1, .int (iI (lft S j))), (0, .ref (ad 0 j))]) X dX2_greens_6 rfl hl (by decide) rfl (fun ls hl => ?_)
  refine g_iconst X dX2_greens_7 ?_
  refine g_istore_n (lv' := [(3, .int (iI 0)), (2, .int (iI 0)), (1, .int (iI (lft S j))), (0, .ref (ad 0 j))]) X dX2_greens_8 rfl hl (by decide) rfl (fun ls hl => ?_)
  have loop_9 : gHide (∀ (n_ : Nat) (k : Nat) (v3 : Int) (v2 : Int), gNp S j + 1 ≤ k + n_ → v3 = ((k : Nat) : Int) → v2 = (allK S j k) → (k ≤ gNp S j) → ∀ (ls : Array Slot), lv_has ls 7 [(3, .int (iI v3)), (2, .int (iI v2)), (1, .int (iI (lft S j))), (0, .ref (ad 0 j))] → W P_ l e_ (gR 3 1 4) s M_ ([.ref (ad 0 j)] : List Value).toArray bl mt_ c_ s.heap [] 0 0 (MQ bl (gQr (nA s.heap) (fun q H1 => Array.size s.heap ≤ q ∧ ce E q (aI E (gNp S j) (grn S j)) H1)) ([.ref (ad 0 j)] : List Value).toArray s 1 4 (nA s.heap)) (F0 M_ 9 ls [])) := by
    intro n_
    induction n_ with
    | zero => intro k v3 v2 hb_ e_v3 e_v2 hkb ls hl; exact absurd hb_ (by omega)
    | succ n_ ih_9 =>
      replace ih_9 := gHide.mk ih_9
      intro k v3 v2 hb_ e_v3 e_v2 hkb ls hl
      subst e_v3
      subst e_v2
      have hl : lv_has ls 7 [(3, .int (iI ((k : Nat) : Int))), (2, .int (iI (allK S j k))), (1, .int (iI (lft S j))), (0, .ref (ad 0 j))] := hl
      refine g_iload_n X dX2_greens_9 rfl hl 0 rfl ?_
      refine g_aload_n X dX2_greens_10 rfl hl 3 rfl ?_
      refine g_get X hk (v := .ref (ad 3 j)) in_X2 rfl (GP.J hP hj) 3 (by decide) q94 (rfl) dX2_greens_11 ?_
      refine g_alenI X hk (n := (gNp S j)) (GP.P hP hj) dX2_greens_14 ?_
      refine g_icmp_ge X dX2_greens_15 (tgt := 32) (by decide) (by omega) (fun c15 => ?_) (fun c15 => ?_)
      · have ekk : k = gNp S j := by omega
        have ev2 : (allK S j k) = (alw S j) := by rw [ekk]; rfl
        rw [ev2] at hl
        have hl : lv_has ls 7 [(3, .int (iI ((k : Nat) : Int))), (2, .int (iI (alw S j))), (1, .int (iI (lft S j))), (0, .ref (ad 0 j))] := hl
        refine g_aload_n X dX2_greens_32 rfl hl 3 rfl ?_
        refine g_get X hk (v := .ref (ad 3 j)) in_X2 rfl (GP.J hP hj) 3 (by decide) q94 (rfl) dX2_greens_33 ?_
        refine g_alenI X hk (n := (gNp S j)) (GP.P hP hj) dX2_greens_36 ?_
        have hs0_ := hS.1
        refine g_newI X hk hS (N := (gNp S j)) (by first | rfl | omega) (by omega) ⟨Nat.le_of_ble_eq_true rfl, by show 0 + (gNp S j) ≤ 4; omega⟩ dX2_greens_37 (fun q H hq_ hc_ hk hz_ ho_ hS => ?_)
        have hG : ce E q (aI E (gNp S j) (fun _ => 0)) H := hc_
        have hG_g : s.heap.size ≤ q := by omega
        have lk_ := lk_new (s0 := s.heap.size) ho_
        have hP := GP.new hP ho_
        refine W.widen (k := (0 + 1)) (n := (0 + 4)) (Nat.le_refl _) (by show 0 + (gNp S j) ≤ (0 + 4); omega) ?_
        refine g_astore_n (lv' := [(3, .ref q), (2, .int (iI (alw S j))), (1, .int (iI (lft S j))), (0, .ref (ad 0 j))]) X dX2_greens_39 rfl hl (by decide) rfl (fun ls hl => ?_)
        refine g_iload_n X dX2_greens_40 rfl hl 2 rfl ?_
        refine g_istore (lv' := [(4, .int (iI (lft S j))), (3, .ref q), (2, .int (iI (alw S j))), (1, .int (iI (lft S j))), (0, .ref (ad 0 j))]) X dX2_greens_41 hl (by decide) rfl (fun ls hl => ?_)
        refine g_iconst X dX2_greens_43 ?_
        refine g_istore (lv' := [(5, .int (iI 0)), (4, .int (iI (lft S j))), (3, .ref q), (2, .int (iI (alw S j))), (1, .int (iI (lft S j))), (0, .ref (ad 0 j))]) X dX2_greens_44 hl (by decide) rfl (fun ls hl => ?_)
        have loop_46 : gHide (∀ (n_ : Nat) (k : Nat) (v5 : Int) (v4 : Int) (H : Heap) (locs : List Loc), gNp S j + 1 ≤ k + n_ → v5 = ((k : Nat) : Int) → v4 = (rstK S j k) → (k ≤ gNp S j) → (kk E s H) → (GP E ad S H) → (va_S (nA s.heap) s.heap H locs) → (ce E q (aI E (gNp S j) (gr2 S j k)) H) → ∀ (ls : Array Slot), lv_has ls 7 [(5, .int (iI v5)), (4, .int (iI v4)), (3, .ref q), (2, .int (iI (alw S j))), (1, .int (iI (lft S j))), (0, .ref (ad 0 j))] → W P_ l e_ (gR 3 1 4) s M_ ([.ref (ad 0 j)] : List Value).toArray bl mt_ c_ H locs (0 + 1) (0 + 4) (MQ bl (gQr (nA s.heap) (fun q H1 => Array.size s.heap ≤ q ∧ ce E q (aI E (gNp S j) (grn S j)) H1)) ([.ref (ad 0 j)] : List Value).toArray s 1 4 (nA s.heap)) (F0 M_ 46 ls [])) := by
          intro n_
          induction n_ with
          | zero => intro k v5 v4 H locs hb_ e_v5 e_v4 hkb hk hP hS hG ls hl; exact absurd hb_ (by omega)
          | succ n_ ih_46 =>
            replace ih_46 := gHide.mk ih_46
            intro k v5 v4 H locs hb_ e_v5 e_v4 hkb hk hP hS hG ls hl
            subst e_v5
            subst e_v4
            have hl : lv_has ls 7 [(5, .int (iI ((k : Nat) : Int))), (4, .int (iI (rstK S j k))), (3, .ref q), (2, .int (iI (alw S j))), (1, .int (iI (lft S j))), (0, .ref (ad 0 j))] := hl
            refine g_iload X dX2_greens_46 hl 0 rfl ?_
            refine g_aload_n X dX2_greens_48 rfl hl 5 rfl ?_
            refine g_get X hk (v := .ref (ad 3 j)) in_X2 rfl (GP.J hP hj) 3 (by decide) q94 (rfl) dX2_greens_49 ?_
            refine g_alenI X hk (n := (gNp S j)) (GP.P hP hj) dX2_greens_52 ?_
            refine g_icmp_ge X dX2_greens_53 (tgt := 108) (by decide) (by omega) (fun c53 => ?_) (fun c53 => ?_)
            · have ekk : k = gNp S j := by omega
              have ev4 : (rstK S j k) = (rst S j) := by rw [ekk]; rfl
              rw [ev4] at hl
              have hl : lv_has ls 7 [(5, .int (iI ((k : Nat) : Int))), (4, .int (iI (rst S j))), (3, .ref q), (2, .int (iI (alw S j))), (1, .int (iI (lft S j))), (0, .ref (ad 0 j))] := hl
              refine g_iconst X dX2_greens_108 ?_
              refine g_istore (lv' := [(5, .int (iI 0)), (4, .int (iI (rst S j))), (3, .ref q), (2, .int (iI (alw S j))), (1, .int (iI (lft S j))), (0, .ref (ad 0 j))]) X dX2_greens_109 hl (by decide) rfl (fun ls hl => ?_)
              have loop_111 : gHide (∀ (n_ : Nat) (k : Nat) (v5 : Int) (H : Heap) (locs : List Loc), gNp S j + 1 ≤ k + n_ → v5 = ((k : Nat) : Int) → ((k : Int) ≤ rst S j) → (kk E s H) → (GP E ad S H) → (va_S (nA s.heap) s.heap H locs) → (ce E q (aI E (gNp S j) (gr3 S j k)) H) → ∀ (ls : Array Slot), lv_has ls 7 [(5, .int (iI v5)), (4, .int (iI (rst S j))), (3, .ref q), (2, .int (iI (alw S j))), (1, .int (iI (lft S j))), (0, .ref (ad 0 j))] → W P_ l e_ (gR 3 1 4) s M_ ([.ref (ad 0 j)] : List Value).toArray bl mt_ c_ H locs (0 + 1) (0 + 4) (MQ bl (gQr (nA s.heap) (fun q H1 => Array.size s.heap ≤ q ∧ ce E q (aI E (gNp S j) (grn S j)) H1)) ([.ref (ad 0 j)] : List Value).toArray s 1 4 (nA s.heap)) (F0 M_ 111 ls [])) := by
                intro n_
                induction n_ with
                | zero => intro k v5 H locs hb_ e_v5 hkb hk hP hS hG ls hl; exact absurd hb_ (by omega)
                | succ n_ ih_111 =>
                  replace ih_111 := gHide.mk ih_111
                  intro k v5 H locs hb_ e_v5 hkb hk hP hS hG ls hl
                  subst e_v5
                  have hl : lv_has ls 7 [(5, .int (iI ((k : Nat) : Int))), (4, .int (iI (rst S j))), (3, .ref q), (2, .int (iI (alw S j))), (1, .int (iI (lft S j))), (0, .ref (ad 0 j))] := hl
                  refine g_iload X dX2_greens_111 hl 0 rfl ?_
                  refine g_iload X dX2_greens_113 hl 1 rfl ?_
                  refine g_icmp_ge X dX2_greens_115 (tgt := 132) (by decide) (by omega) (fun c115 => ?_) (fun c115 => ?_)
                  · refine g_aload_n X dX2_greens_132 rfl hl 2 rfl ?_
                    exact g_aret X (Or.inr ⟨_, rfl⟩) hS (⟨hG_g, ce_I hG (fun i _ => gr_3 (by omega))⟩) ⟨Nat.le_of_ble_eq_true rfl, Nat.le_of_ble_eq_true rfl⟩ dX2_greens_133
                  · refine g_aload_n X dX2_greens_118 rfl hl 2 rfl ?_
                    refine g_iload X dX2_greens_119 hl 0 rfl ?_
                    refine g_dup2 X dX2_greens_121 rfl rfl ?_
                    refine g_ialdv X hk (j := k) (n := (gNp S j)) (f := (gr3 S j k)) (v := ((gr3 S j k) k)) hG (rfl) (by omega) (rfl) dX2_greens_122 ?_
                    refine g_iconst X dX2_greens_123 ?_
                    refine g_iadd X dX2_greens_124 ?_
                    refine g_iast X hk hS ⟨hG_g, Nat.le_trans hN0 hG_g⟩ (j := k) (n := (gNp S j)) (f := (gr3 S j k)) hG (rfl) (by omega) dX2_greens_125 (fun H locs hc_ hk hz_ ho_ hS => ?_)
                    have hP := GP.loc hP hA0_ hG_g ho_
                    have hG : ce E q (aI E (gNp S j) (uI (gr3 S j k) k (((gr3 S j k) k) + 1))) H := hc_
                    have hG : ce E q (aI E (gNp S j) (gr3 S j (k + 1))) H := ce_I hG (fun i _ => congrFun (gr3_s S j k) i)
                    refine g_iinc (lv' := [(5, .int (iI (((k : Nat) : Int) + 1))), (4, .int (iI (rst S j))), (3, .ref q), (2, .int (iI (alw S j))), (1, .int (iI (lft S j))), (0, .ref (ad 0 j))]) X dX2_greens_126 hl (k := 0) rfl (by decide) rfl (fun ls hl => ?_)
                    refine g_goto X dX2_greens_129 (tgt := 111) (by decide) ?_
                    exact ih_111.out (k + 1) (((k : Nat) : Int) + 1) H locs (by omega) (by omega) (by omega) hk hP hS hG _ (lv_sub hl [0, 1, 2, 3, 4, 5] rfl)
              exact loop_111.out (gNp S j + 1) 0 0 H locs (by omega) (rfl) (by omega) hk hP hS (ce_I hG (fun i hi => by rw [ekk]; exact gr_23 hi)) _ (lv_sub hl [0, 1, 2, 3, 4, 5] rfl)
            · have join_80 : gHide (∀ (z : Int) (ls : Array Slot), z = (mor S j k) → lv_has ls 7 [(5, .int (iI ((k : Nat) : Int))), (4, .int (iI (rstK S j k))), (3, .ref q), (2, .int (iI (alw S j))), (1, .int (iI (lft S j))), (0, .ref (ad 0 j))] → W P_ l e_ (gR 3 1 4) s M_ ([.ref (ad 0 j)] : List Value).toArray bl mt_ c_ H locs (0 + 1) (0 + 4) (MQ bl (gQr (nA s.heap) (fun q H1 => Array.size s.heap ≤ q ∧ ce E q (aI E (gNp S j) (grn S j)) H1)) ([.ref (ad 0 j)] : List Value).toArray s 1 4 (nA s.heap)) (F0 M_ 80 ls [.int (iI z)])) := by
                intro z ls e_z hl
                subst e_z
                have hl : lv_has ls 7 [(5, .int (iI ((k : Nat) : Int))), (4, .int (iI (rstK S j k))), (3, .ref q), (2, .int (iI (alw S j))), (1, .int (iI (lft S j))), (0, .ref (ad 0 j))] := hl
                have hmo := mor_ab hI hj (show k < gNp S j by omega)
                refine g_istore (lv' := [(6, .int (iI (mor S j k))), (5, .int (iI ((k : Nat) : Int))), (4, .int (iI (rstK S j k))), (3, .ref q), (2, .int (iI (alw S j))), (1, .int (iI (lft S j))), (0, .ref (ad 0 j))]) X dX2_greens_80 hl (by decide) rfl (fun ls hl => ?_)
                refine g_aload_n X dX2_greens_82 rfl hl 3 rfl ?_
                refine g_iload X dX2_greens_83 hl 1 rfl ?_
                refine g_aload_n X dX2_greens_85 rfl hl 6 rfl ?_
                refine g_iload X dX2_greens_86 hl 1 rfl ?_
                refine g_pV X hk (As := [.int (iI ((k : Nat) : Int))]) (rest := [.int (iI ((k : Nat) : Int)), .ref q]) rfl (GP.J hP hj) (p_leastGreen l E ad S H hP hI j hj k (by omega)) 1 (lw_V q400 q401 q402 q47 q403) (by decide +kernel) ⟨⟨Nat.le_of_ble_eq_true rfl, Nat.le_of_ble_eq_true rfl⟩, Nat.le_of_ble_eq_true rfl, Nat.le_of_ble_eq_true rfl⟩ rfl rfl hl.1 (Nat.le_of_ble_eq_true rfl) dX2_greens_88 ?_
                refine g_iload X dX2_greens_91 hl 0 rfl ?_
                refine g_iadd X dX2_greens_93 ?_
                refine g_iast X hk hS ⟨hG_g, Nat.le_trans hN0 hG_g⟩ (j := k) (n := (gNp S j)) (f := (gr2 S j k)) hG (rfl) (by omega) dX2_greens_94 (fun H locs hc_ hk hz_ ho_ hS => ?_)
                have hP := GP.loc hP hA0_ hG_g ho_
                have hG : ce E q (aI E (gNp S j) (uI (gr2 S j k) k ((lst S j k) + (mor S j k)))) H := hc_
                have hG : ce E q (aI E (gNp S j) (gr2 S j (k + 1))) H := ce_I hG (fun i _ => congrFun (gr2_s S j k) i)
                refine g_iload X dX2_greens_95 hl 2 rfl ?_
                refine g_iload X dX2_greens_97 hl 0 rfl ?_
                refine g_isub X dX2_greens_99 ?_
                refine g_istore (lv' := [(4, .int (iI ((rstK S j k) - (mor S j k)))), (6, .int (iI (mor S j k))), (5, .int (iI ((k : Nat) : Int))), (3, .ref q), (2, .int (iI (alw S j))), (1, .int (iI (lft S j))), (0, .ref (ad 0 j))]) X dX2_greens_100 hl (by decide) rfl (fun ls hl => ?_)
                refine g_iinc (lv' := [(5, .int (iI (((k : Nat) : Int) + 1))), (4, .int (iI ((rstK S j k) - (mor S j k)))), (6, .int (iI (mor S j k))), (3, .ref q), (2, .int (iI (alw S j))), (1, .int (iI (lft S j))), (0, .ref (ad 0 j))]) X dX2_greens_102 hl (k := 2) rfl (by decide) rfl (fun ls hl => ?_)
                refine g_goto X dX2_greens_105 (tgt := 46) (by decide) ?_
                exact ih_46.out (k + 1) (((k : Nat) : Int) + 1) ((rstK S j k) - (mor S j k)) H locs (by omega) (by omega) (rfl) (by omega) hk hP hS hG _ (lv_sub hl [0, 1, 3, 4, 5, 6] rfl)
              refine g_iload_n X dX2_greens_56 rfl hl 3 rfl ?_
              refine g_if_ne X dX2_greens_57 (tgt := 70) (by decide) (by omega) (fun c57 => ?_) (fun c57 => ?_)
              · refine g_iload_n X dX2_greens_70 rfl hl 4 rfl ?_
                refine g_aload_n X dX2_greens_71 rfl hl 5 rfl ?_
                refine g_iload X dX2_greens_72 hl 0 rfl ?_
                refine g_pV X hk (As := [.int (iI ((k : Nat) : Int))]) (rest := [.int (iI (lft S j))]) rfl (GP.J hP hj) (p_weight l E ad S H hP hI j hj k (by omega)) 1 (lw_V q426 q428 qs8 q47 q429) (by decide +kernel) ⟨⟨Nat.le_of_ble_eq_true rfl, Nat.le_of_ble_eq_true rfl⟩, Nat.le_of_ble_eq_true rfl, Nat.le_of_ble_eq_true rfl⟩ rfl rfl hl.1 (Nat.le_of_ble_eq_true rfl) dX2_greens_74 ?_
                have hwb := wgt_b (hI.2.2 j hj) k
                have hmul : -76000 ≤ lft S j * wgt S j k ∧ lft S j * wgt S j k ≤ 153000 := by have h1 := Int.mul_le_mul_of_nonneg_right hlf.1 hwb.1; have h2 := Int.mul_le_mul_of_nonneg_right hlf.2 hwb.1; omega
                refine g_imul X dX2_greens_77 ?_
                refine g_iload_n X dX2_greens_78 rfl hl 3 rfl ?_
                refine g_idiv X dX2_greens_79 (by omega) ?_
                exact join_80.out (Int.tdiv ((lft S j) * (wgt S j k)) (alw S j)) _ (by unfold mor; split <;> first | rfl | (exfalso; omega)) (lv_sub hl [0, 1, 2, 3, 4, 5] rfl)
              · refine g_iload_n X dX2_greens_60 rfl hl 4 rfl ?_
                refine g_aload_n X dX2_greens_61 rfl hl 5 rfl ?_
                refine g_get X hk (v := .ref (ad 3 j)) in_X2 rfl (GP.J hP hj) 3 (by decide) q94 (rfl) dX2_greens_62 ?_
                refine g_alenI X hk (n := (gNp S j)) (GP.P hP hj) dX2_greens_65 ?_
                refine g_idiv X dX2_greens_66 (by omega) ?_
                refine g_goto X dX2_greens_67 (tgt := 80) (by decide) ?_
                exact join_80.out (Int.tdiv (lft S j) (((gNp S j) : Nat) : Int)) _ (by unfold mor; split <;> first | rfl | (exfalso; omega)) (lv_sub hl [0, 1, 2, 3, 4, 5] rfl)
        exact loop_46.out (gNp S j + 1) 0 0 (lft S j) H [] (by omega) (rfl) (rfl) (by omega) hk hP hS (ce_I hG (fun i hi => by unfold gr2; rw [if_neg (by omega)])) _ (lv_sub hl [0, 1, 2, 3, 4, 5] rfl)
      · refine g_iload_n X dX2_greens_18 rfl hl 1 rfl ?_
        refine g_aload_n X dX2_greens_19 rfl hl 3 rfl ?_
        refine g_iload_n X dX2_greens_20 rfl hl 0 rfl ?_
        refine g_pV X hk (As := [.int (iI ((k : Nat) : Int))]) (rest := [.int (iI (allK S j k))]) rfl (GP.J hP hj) (p_weight l E ad S s.heap hP hI j hj k (by omega)) 1 (lw_V q426 q428 qs8 q47 q429) (by decide +kernel) ⟨⟨Nat.le_of_ble_eq_true rfl, Nat.le_of_ble_eq_true rfl⟩, Nat.le_of_ble_eq_true rfl, Nat.le_of_ble_eq_true rfl⟩ rfl rfl hl.1 (Nat.le_of_ble_eq_true rfl) dX2_greens_21 ?_
        refine g_iadd X dX2_greens_24 ?_
        refine g_istore_n (lv' := [(2, .int (iI ((allK S j k) + (wgt S j k)))), (3, .int (iI ((k : Nat) : Int))), (1, .int (iI (lft S j))), (0, .ref (ad 0 j))]) X dX2_greens_25 rfl hl (by decide) rfl (fun ls hl => ?_)
        refine g_iinc (lv' := [(3, .int (iI (((k : Nat) : Int) + 1))), (2, .int (iI ((allK S j k) + (wgt S j k)))), (1, .int (iI (lft S j))), (0, .ref (ad 0 j))]) X dX2_greens_26 hl (k := 1) rfl (by decide) rfl (fun ls hl => ?_)
        refine g_goto X dX2_greens_29 (tgt := 9) (by decide) ?_
        exact ih_9.out (k + 1) (((k : Nat) : Int) + 1) ((allK S j k) + (wgt S j k)) (by omega) (by omega) (rfl) (by omega) _ (lv_sub hl [0, 1, 2, 3] rfl)
  exact loop_9.out (gNp S j + 1) 0 0 0 (by omega) (rfl) (rfl) (by omega) _ (lv_sub hl [0, 1, 2, 3] rfl)
set_option maxHeartbeats 4000000 in
theorem p_greensIn (l : Launch) (E : EP) (ad : Nat → Nat → Nat) (S : GS) (H : Heap) (hP : GP E ad S H) (hI : gI S) (j : Nat) (hj : j < gN S) (hL : 0 ≤ lft S j) (t : Int) (ht : -1000000 ≤ t ∧ t ≤ 1000000) : gMr l E yX2_greensIn cX2_greensIn 2 (.array .int) 4 1 4 H [.ref (ad 0 j), .int (iI t)] (nA H) (fun q H1 => ce E q (aI E (gNp S j) (if chg S j t = true then gCh S j else grn S j)) H1) := by
  refine g_met (plainFor_of_name (by decide)) (Nat.le_of_ble_eq_true rfl) (fun P_ e_ s M_ bl mt_ c_ ls X hmeth_ hk hh hl => ?_)
  subst hh
  have X : gX P_ s M_ mt_ c_ cX2_greensIn 2 ([.ref (ad 0 j), .int (iI t)] : List Value).toArray RX2 (some (.array .int)) := X
  have hl : lv_has ls 2 [(0, .ref (ad 0 j)), (1, .int (iI t))] := hl
  have hS : va_S (nA s.heap) s.heap s.heap [] := va_S.rf
  have hN0 : eN E ≤ s.heap.size := hk.N
  have hA0_ := GP.lts hP
  have hnp := (hI.2.2 j hj).1
  have hc := hI.2.1
  have ho := (hI.2.2 j hj).2.2.2.2.1
  have hch := (hI.2.2 j hj).2.2.2.2.2.2.2
  refine g_aload_n X dX2_greensIn_0 rfl hl 0 rfl ?_
  refine g_iload_n X dX2_greensIn_1 rfl hl 1 rfl ?_
  refine g_pV X hk (As := [.int (iI t)]) (rest := []) rfl (GP.J hP hj) (p_isChanged l E ad S s.heap hP hI j hj t (by omega)) 1 (lw_V q534 q535 q536 q47 q537) (by decide +kernel) ⟨⟨Nat.le_of_ble_eq_true rfl, Nat.le_of_ble_eq_true rfl⟩, Nat.le_of_ble_eq_true rfl, Nat.le_of_ble_eq_true rfl⟩ rfl rfl hl.1 (Nat.le_of_ble_eq_true rfl) dX2_greensIn_2 ?_
  have h5 := bZ_le (chg S j t)
  refine g_if_eq X dX2_greensIn_5 (tgt := 15) (by decide) (by omega) (fun c5 => ?_) (fun c5 => ?_)
  · have c15 : ¬ chg S j t = true := by grind [bZ]
    refine g_aload_n X dX2_greensIn_15 rfl hl 0 rfl ?_
    have hs0_ := hS.1
    refine g_callr (g_runV X hk (As := []) (rest := []) rfl (GP.J hP hj) (p_greens l E ad S s.heap hP hI j hj (hL)) 0 (lw_V q576 q422 q423 q47 q424) (by decide +kernel) ⟨⟨Nat.le_of_ble_eq_true rfl, Nat.le_of_ble_eq_true rfl⟩, Nat.le_of_ble_eq_true rfl, Nat.le_of_ble_eq_true rfl⟩ rfl rfl hl.1 (Nat.le_of_ble_eq_true rfl) dX2_greensIn_16) hk hS (fun q h => Nat.le_trans hS.1 h) (fun q h => Nat.le_trans hk.N h) (fun q16 H locs hP_ hk hz_ ho_ hS => ?_)
    replace ho_ := lk_nA (fun q h => h) ho_
    obtain ⟨h16_0, h16⟩ := hP_
    have h16_g : s.heap.size ≤ q16 := by omega
    have lk_ := lk_new (s0 := s.heap.size) ho_
    have hP := GP.new hP ho_
    exact g_aret X (Or.inr ⟨_, rfl⟩) hS (by rw [if_neg c15]; exact h16) ⟨Nat.le_of_ble_eq_true rfl, Nat.le_of_ble_eq_true rfl⟩ dX2_greensIn_19
  · have c8 : chg S j t = true := by grind [bZ]
    have hE : gChn S j = gNp S j := by have := c8; simp only [chg, decide_eq_true_eq] at this; omega
    refine g_aload_n X dX2_greensIn_8 rfl hl 0 rfl ?_
    refine g_get X hk (v := .ref (ad 4 j)) in_X2 rfl (GP.J hP hj) 7 (by decide) q102 (rfl) dX2_greensIn_9 ?_
    refine g_goto X dX2_greensIn_12 (tgt := 19) (by decide) ?_
    exact g_aret X (Or.inr ⟨_, rfl⟩) hS (by rw [if_pos c8, ← hE]; exact GP.G hP hj) ⟨Nat.le_of_ble_eq_true rfl, Nat.le_of_ble_eq_true rfl⟩ dX2_greensIn_19
/-- what greensOf has laid, up to a place -/
def gbK (S : GS) (j : Nat) (v : Int) (k : Nat) (i : Nat) : Int := if i < k then bZ (gAtP S j v (i : Int)) else 0
theorem gbK_s (S : GS) (j : Nat) (v : Int) (k : Nat) : uI (gbK S j v k) k (bZ (gAtP S j v (k : Int))) = gbK S j v (k + 1) := by
  funext i
  unfold uI gbK
  by_cases h : i = k
  · subst h; rw [if_pos rfl, if_pos (by omega)]
  · rw [if_neg h]
    by_cases h2 : i < k
    · rw [if_pos h2, if_pos (by omega)]
    · rw [if_neg h2, if_neg (by omega)]
set_option maxHeartbeats 4000000 in
theorem p_greensOf (l : Launch) (E : EP) (ad : Nat → Nat → Nat) (S : GS) (H : Heap) (hP : GP E ad S H) (hI : gI S) (j : Nat) (hj : j < gN S) (hL : 0 ≤ lft S j) (v : Int) : gMr l E yX1_greensOf cX1_greensOf 7 (.array .boolean) 4 2 94 H [.ref (ad 6 0), .ref (ad 0 j), .int (iI v)] (nA H) (fun q H1 => Array.size H ≤ q ∧ ce E q (aB E (gCyc S).toNat (fun p => bZ (gAtP S j v (p : Int)))) H1) := by
  refine g_met (plainFor_of_name (by decide)) (Nat.le_of_ble_eq_true rfl) (fun P_ e_ s M_ bl mt_ c_ ls X hmeth_ hk hh hl => ?_)
  subst hh
  have X : gX P_ s M_ mt_ c_ cX1_greensOf 7 ([.ref (ad 6 0), .ref (ad 0 j), .int (iI v)] : List Value).toArray RX1 (some (.array .boolean)) := X
  have hl : lv_has ls 7 [(0, .ref (ad 6 0)), (1, .ref (ad 0 j)), (2, .int (iI v))] := hl
  have hS : va_S (nA s.heap) s.heap s.heap [] := va_S.rf
  have hN0 : eN E ≤ s.heap.size := hk.N
  have hA0_ := GP.lts hP
  have hn5 := hI.1.1
  have hc := hI.2.1
  have hnp := (hI.2.2 j hj).1
  have hg : ∀ i, i < gNp S j → 0 ≤ grn S j i ∧ grn S j i ≤ 1000 := fun i hi => by have := grn_b hI hj hL hi; omega
  refine g_aload_n X dX1_greensOf_0 rfl hl 0 rfl ?_
  refine g_get X hk (v := .int (iI (gCyc S))) in_X1 rfl (GP.X hP) 1 (by decide) q143 (rfl) dX1_greensOf_1 ?_
  have hs0_ := hS.1
  refine g_newB X hk hS (N := ((gCyc S)).toNat) (by first | rfl | omega) (by omega) ⟨Nat.le_of_ble_eq_true rfl, by show 0 + ((gCyc S)).toNat ≤ 94; omega⟩ dX1_greensOf_4 (fun qb H hq_ hc_ hk hz_ ho_ hS => ?_)
  have hB : ce E qb (aB E ((gCyc S)).toNat (fun _ => 0)) H := hc_
  have hB_g : s.heap.size ≤ qb := by omega
  have lk_ := lk_new (s0 := s.heap.size) ho_
  have hP := GP.new hP ho_
  refine W.widen (k := (0 + 1)) (n := (0 + 90)) (Nat.le_refl _) (by show 0 + ((gCyc S)).toNat ≤ (0 + 90); omega) ?_
  refine g_astore_n (lv' := [(3, .ref qb), (0, .ref (ad 6 0)), (1, .ref (ad 0 j)), (2, .int (iI v))]) X dX1_greensOf_6 rfl hl (by decide) rfl (fun ls hl => ?_)
  refine g_aload_n X dX1_greensOf_7 rfl hl 2 rfl ?_
  have hs0_ := hS.1
  refine g_callr (g_runV X hk (As := []) (rest := []) rfl (GP.J hP hj) (p_greens l E ad S H hP hI j hj (hL)) 0 (lw_V q421 q422 q423 q47 q424) (by decide +kernel) ⟨⟨Nat.le_of_ble_eq_true rfl, Nat.le_of_ble_eq_true rfl⟩, Nat.le_of_ble_eq_true rfl, Nat.le_of_ble_eq_true rfl⟩ rfl rfl hl.1 (Nat.le_of_ble_eq_true rfl) dX1_greensOf_8) hk hS (fun q h => Nat.le_trans hS.1 h) (fun q h => Nat.le_trans hk.N h) (fun qg H locs hP_ hk hz_ ho_ hS => ?_)
  replace ho_ := lk_nA (fun q h => h) ho_
  obtain ⟨hG_0, hG⟩ := hP_
  have hG_g : s.heap.size ≤ qg := by omega
  have lt_hB_hG : qb < qg := by have := hB.lt; omega
  have lk_ := lk_new (s0 := s.heap.size) ho_
  have hP := GP.new hP ho_
  have hB := hB.kept (lk_ _ hB_g hB.lt)
  refine g_astore (lv' := [(4, .ref qg), (3, .ref qb), (0, .ref (ad 6 0)), (1, .ref (ad 0 j)), (2, .int (iI v))]) X dX1_greensOf_11 hl (by decide) rfl (fun ls hl => ?_)
  refine g_iconst X dX1_greensOf_13 ?_
  refine g_istore (lv' := [(5, .int (iI 0)), (4, .ref qg), (3, .ref qb), (0, .ref (ad 6 0)), (1, .ref (ad 0 j)), (2, .int (iI v))]) X dX1_greensOf_14 hl (by decide) rfl (fun ls hl => ?_)
  have loop_16 : gHide (∀ (n_ : Nat) (k : Nat) (v5 : Int) (H : Heap) (locs : List Loc), (gCyc S).toNat + 1 ≤ k + n_ → v5 = ((k : Nat) : Int) → ((k : Int) ≤ gCyc S) → (kk E s H) → (GP E ad S H) → (va_S (nA s.heap) s.heap H locs) → (ce E qb (aB E (gCyc S).toNat (gbK S j v k)) H) → (ce E qg (aI E (gNp S j) (grn S j)) H) → ∀ (ls : Array Slot), lv_has ls 7 [(5, .int (iI v5)), (4, .ref qg), (3, .ref qb), (0, .ref (ad 6 0)), (1, .ref (ad 0 j)), (2, .int (iI v))] → W P_ l e_ (gR 4 2 94) s M_ ([.ref (ad 6 0), .ref (ad 0 j), .int (iI v)] : List Value).toArray bl mt_ c_ H locs ((0 + 1) + 1) ((0 + 90) + 4) (MQ bl (gQr (nA s.heap) (fun q H1 => Array.size s.heap ≤ q ∧ ce E q (aB E (gCyc S).toNat (fun p => bZ (gAtP S j v (p : Int)))) H1)) ([.ref (ad 6 0), .ref (ad 0 j), .int (iI v)] : List Value).toArray s 2 94 (nA s.heap)) (F0 M_ 16 ls [])) := by
    intro n_
    induction n_ with
    | zero => intro k v5 H locs hb_ e_v5 hkb hk hP hS hB hG ls hl; exact absurd hb_ (by omega)
    | succ n_ ih_16 =>
      replace ih_16 := gHide.mk ih_16
      intro k v5 H locs hb_ e_v5 hkb hk hP hS hB hG ls hl
      subst e_v5
      have hl : lv_has ls 7 [(5, .int (iI ((k : Nat) : Int))), (4, .ref qg), (3, .ref qb), (0, .ref (ad 6 0)), (1, .ref (ad 0 j)), (2, .int (iI v))] := hl
      refine g_iload X dX1_greensOf_16 hl 0 rfl ?_
      refine g_aload_n X dX1_greensOf_18 rfl hl 3 rfl ?_
      refine g_get X hk (v := .int (iI (gCyc S))) in_X1 rfl (GP.X hP) 1 (by decide) q143 (rfl) dX1_greensOf_19 ?_
      refine g_icmp_ge X dX1_greensOf_22 (tgt := 70) (by decide) (by omega) (fun c22 => ?_) (fun c22 => ?_)
      · refine g_aload_n X dX1_greensOf_70 rfl hl 2 rfl ?_
        exact g_aret X (Or.inr ⟨_, rfl⟩) hS (⟨hB_g, ce_B hB (fun i hi => by unfold gbK; rw [if_pos (by omega)])⟩) ⟨Nat.le_of_ble_eq_true rfl, Nat.le_of_ble_eq_true rfl⟩ dX1_greensOf_71
      · refine g_aload_n X dX1_greensOf_25 rfl hl 4 rfl ?_
        refine g_iload X dX1_greensOf_26 hl 0 rfl ?_
        refine g_aload X dX1_greensOf_28 hl 1 rfl ?_
        refine g_pV X hk (As := [.int (iI ((k : Nat) : Int)), .ref qg]) (rest := []) rfl (GP.J hP hj) (p_phaseAt l E ad S H hP hI j hj ((k : Nat) : Int) (by omega) qg (grn S j) hG hg) 2 (lw_V q430 q431 q432 q47 q433) (by decide +kernel) ⟨⟨Nat.le_of_ble_eq_true rfl, Nat.le_of_ble_eq_true rfl⟩, Nat.le_of_ble_eq_true rfl, Nat.le_of_ble_eq_true rfl⟩ rfl rfl hl.1 (Nat.le_of_ble_eq_true rfl) dX1_greensOf_30 ?_
        have hr := phA_rng (grn S j) (clr S j) (gNp S j) 0 (k : Int)
        refine g_istore (lv' := [(6, .int (iI (phA (grn S j) (clr S j) (gNp S j) 0 ((k : Nat) : Int)))), (5, .int (iI ((k : Nat) : Int))), (4, .ref qg), (3, .ref qb), (0, .ref (ad 6 0)), (1, .ref (ad 0 j)), (2, .int (iI v))]) X dX1_greensOf_33 hl (by decide) rfl (fun ls hl => ?_)
        refine g_aload_n X dX1_greensOf_35 rfl hl 3 rfl ?_
        refine g_iload X dX1_greensOf_36 hl 1 rfl ?_
        refine g_iload X dX1_greensOf_38 hl 0 rfl ?_
        have join_63 : gHide (∀ (z : Int) (ls : Array Slot), z = (bZ (gAtP S j v (k : Int))) → lv_has ls 7 [(6, .int (iI (phA (grn S j) (clr S j) (gNp S j) 0 ((k : Nat) : Int)))), (5, .int (iI ((k : Nat) : Int))), (4, .ref qg), (3, .ref qb), (0, .ref (ad 6 0)), (1, .ref (ad 0 j)), (2, .int (iI v))] → W P_ l e_ (gR 4 2 94) s M_ ([.ref (ad 6 0), .ref (ad 0 j), .int (iI v)] : List Value).toArray bl mt_ c_ H locs ((0 + 1) + 1) ((0 + 90) + 4) (MQ bl (gQr (nA s.heap) (fun q H1 => Array.size s.heap ≤ q ∧ ce E q (aB E (gCyc S).toNat (fun p => bZ (gAtP S j v (p : Int)))) H1)) ([.ref (ad 6 0), .ref (ad 0 j), .int (iI v)] : List Value).toArray s 2 94 (nA s.heap)) (F0 M_ 63 ls [.int (iI z), .int (iI ((k : Nat) : Int)), .ref qb])) := by
          intro z ls e_z hl
          subst e_z
          have hl : lv_has ls 7 [(6, .int (iI (phA (grn S j) (clr S j) (gNp S j) 0 ((k : Nat) : Int)))), (5, .int (iI ((k : Nat) : Int))), (4, .ref qg), (3, .ref qb), (0, .ref (ad 6 0)), (1, .ref (ad 0 j)), (2, .int (iI v))] := hl
          refine g_bast X hk hS ⟨hB_g, Nat.le_trans hN0 hB_g⟩ (j := k) (n := (gCyc S).toNat) (f := (gbK S j v k)) hB (by first | exact bZ_le _ | omega) (rfl) (by omega) dX1_greensOf_63 (fun H locs hc_ hk hz_ ho_ hS => ?_)
          have hP := GP.loc hP hA0_ hB_g ho_
          have hB : ce E qb (aB E (gCyc S).toNat (uI (gbK S j v k) k (bZ (gAtP S j v (k : Int))))) H := hc_
          have hB : ce E qb (aB E (gCyc S).toNat (gbK S j v (k + 1))) H := ce_B hB (fun i _ => congrFun (gbK_s S j v k) i)
          have hG := hG.kept (ho_ _ (Nat.ne_of_gt lt_hB_hG))
          refine g_iinc (lv' := [(5, .int (iI (((k : Nat) : Int) + 1))), (6, .int (iI (phA (grn S j) (clr S j) (gNp S j) 0 ((k : Nat) : Int)))), (4, .ref qg), (3, .ref qb), (0, .ref (ad 6 0)), (1, .ref (ad 0 j)), (2, .int (iI v))]) X dX1_greensOf_64 hl (k := 1) rfl (by decide) rfl (fun ls hl => ?_)
          refine g_goto X dX1_greensOf_67 (tgt := 16) (by decide) ?_
          exact ih_16.out (k + 1) (((k : Nat) : Int) + 1) H locs (by omega) (by omega) (by omega) hk hP hS hB hG _ (lv_sub hl [0, 2, 3, 4, 5, 6] rfl)
        refine g_iconst X dX1_greensOf_40 ?_
        refine g_icmp_eq X dX1_greensOf_41 (tgt := 62) (by decide) (by omega) (fun c41 => ?_) (fun c41 => ?_)
        · refine g_iconst X dX1_greensOf_62 ?_
          exact join_63.out 0 _ (by unfold gAtP; grind [bZ]) (lv_sub hl [0, 1, 2, 3, 4, 5, 6] rfl)
        · refine g_aload_n X dX1_greensOf_44 rfl hl 5 rfl ?_
          refine g_getN X hk (v := .ref (ad 3 j)) (host := "Greenwave") in_X2 rfl (GP.J hP hj) 3 (by decide) 3 rfl (rfl) dX1_greensOf_45 ?_
          refine g_iload X dX1_greensOf_48 hl 0 rfl ?_
          refine g_ialdv X hk (j := ((phA (grn S j) (clr S j) (gNp S j) 0 ((k : Nat) : Int))).toNat) (n := (gNp S j)) (f := (gPh S j)) (v := ((gPh S j) (((phA (grn S j) (clr S j) (gNp S j) 0 ((k : Nat) : Int))).toNat))) (GP.P hP hj) (by omega) (by omega) (rfl) dX1_greensOf_50 ?_
          refine g_iload_n X dX1_greensOf_51 rfl hl 6 rfl ?_
          refine g_pS X hk (As := [.int (iI ((gPh S j) (((phA (grn S j) (clr S j) (gNp S j) 0 ((k : Nat) : Int))).toNat))), .int (iI v)]) (rest := [.int (iI ((k : Nat) : Int)), .ref qb]) (p_has l E ((gPh S j) (((phA (grn S j) (clr S j) (gNp S j) 0 ((k : Nat) : Int))).toNat)) v H) 2 (lw_S q323 q324 q46 q325) (by decide +kernel) ⟨⟨Nat.le_of_ble_eq_true rfl, Nat.le_of_ble_eq_true rfl⟩, Nat.le_of_ble_eq_true rfl, Nat.le_of_ble_eq_true rfl⟩ rfl rfl hl.1 (Nat.le_of_ble_eq_true rfl) dX1_greensOf_52 ?_
          have h55 := bZ_le (hasB (gPh S j (phA (grn S j) (clr S j) (gNp S j) 0 (k : Int)).toNat) v)
          refine g_if_eq X dX1_greensOf_55 (tgt := 62) (by decide) (by omega) (fun c55 => ?_) (fun c55 => ?_)
          · refine g_iconst X dX1_greensOf_62 ?_
            exact join_63.out 0 _ (by unfold gAtP; grind [bZ]) (lv_sub hl [0, 1, 2, 3, 4, 5, 6] rfl)
          · refine g_iconst X dX1_greensOf_58 ?_
            refine g_goto X dX1_greensOf_59 (tgt := 63) (by decide) ?_
            exact join_63.out 1 _ (by unfold gAtP; grind [bZ]) (lv_sub hl [0, 1, 2, 3, 4, 5, 6] rfl)
  exact loop_16.out ((gCyc S).toNat + 1) 0 0 H locs (by omega) (rfl) (by omega) hk hP hS (ce_B hB (fun i hi => by unfold gbK; rw [if_neg (by omega)])) hG _ (lv_sub hl [0, 1, 2, 3, 4, 5] rfl)
/-- the rows of the main movements: the first k -/
def mgK (E : EP) (S : GS) (s0 b q : Nat) (f : Nat → Option Nat) (k : Nat) (H : Heap) : Prop := (s0 ≤ q ∧ q < b) ∧ ce E q (aQ E 5 (2 * gN S) f) H ∧ ∀ i, i < k → ∃ a, f i = some a ∧ (s0 ≤ a ∧ a < b) ∧ a ≠ q ∧ ce E a (aB E (gCyc S).toNat (fun p => bZ (gAtP S (i / 2) ((i % 2 : Nat) : Int) (p : Int)))) H
section MG
variable {E : EP} {S : GS} {s0 b b1 q : Nat} {f : Nat → Option Nat} {k : Nat} {H H1 : Heap}
theorem mgK.kb (h : mgK E S s0 b q f k H) (o : ∀ q : Nat, s0 ≤ q → q < b → H1[q]? = H[q]?) : mgK E S s0 b q f k H1 :=
  ⟨h.1, h.2.1.kept (o q h.1.1 h.1.2), fun i hi => by
    obtain ⟨a, e1, e2, e3, e4⟩ := h.2.2 i hi
    exact ⟨a, e1, e2, e3, e4.kept (o a e2.1 e2.2)⟩⟩
theorem mgK.mono (h : mgK E S s0 b q f k H) (hb : b ≤ b1) : mgK E S s0 b1 q f k H :=
  ⟨⟨h.1.1, Nat.lt_of_lt_of_le h.1.2 hb⟩, h.2.1, fun i hi => by
    obtain ⟨a, e1, e2, e3, e4⟩ := h.2.2 i hi
    exact ⟨a, e1, ⟨e2.1, Nat.lt_of_lt_of_le e2.2 hb⟩, e3, e4⟩⟩
theorem mgK.step {a : Nat} {hv : Int} {jj : Nat} (h : mgK E S s0 b q f k H) (ha : s0 ≤ a ∧ b ≤ a ∧ a < b1) (hj : k / 2 = jj) (hvv : ((k % 2 : Nat) : Int) = hv) (hr : ce E a (aB E (gCyc S).toNat (fun p => bZ (gAtP S jj hv (p : Int)))) H) (hq : ce E q (aQ E 5 (2 * gN S) (va_up f k (some a))) H1) (o : ∀ x : Nat, x ≠ q → H1[x]? = H[x]?) : mgK E S s0 b1 q (va_up f k (some a)) (k + 1) H1 := by
  subst hj; subst hvv
  refine ⟨⟨h.1.1, by have := h.1.2; omega⟩, hq, fun i hi => ?_⟩
  by_cases e : i = k
  · subst e
    exact ⟨a, by simp [va_up], ⟨ha.1, ha.2.2⟩, by have := h.1.2; omega, hr.kept (o a (by have := h.1.2; omega))⟩
  · obtain ⟨a2, e1, e2, e3, e4⟩ := h.2.2 i (by omega)
    exact ⟨a2, by simp [va_up, e, e1], ⟨e2.1, by omega⟩, e3, e4.kept (o a2 e3)⟩
end MG
set_option maxHeartbeats 4000000 in
theorem p_mainGreens (l : Launch) (E : EP) (ad : Nat → Nat → Nat) (S : GS) (H : Heap) (hP : GP E ad S H) (hI : gI S) (hLs : ∀ j, j < gN S → 0 ≤ lft S j) : gMr l E yX1_mainGreens cX1_mainGreens 3 (.array (.array .boolean)) 5 21 950 H [.ref (ad 6 0)] (nA H) (fun q H1 => ∃ f, mgK E S (Array.size H) (Array.size H1) q f (2 * gN S) H1) := by
  refine g_met (plainFor_of_name (by decide)) (Nat.le_of_ble_eq_true rfl) (fun P_ e_ s M_ bl mt_ c_ ls X hmeth_ hk hh hl => ?_)
  subst hh
  have X : gX P_ s M_ mt_ c_ cX1_mainGreens 3 ([.ref (ad 6 0)] : List Value).toArray RX1 (some (.array (.array .boolean))) := X
  have hl : lv_has ls 3 [(0, .ref (ad 6 0))] := hl
  have hS : va_S (nA s.heap) s.heap s.heap [] := va_S.rf
  have hN0 : eN E ≤ s.heap.size := hk.N
  have hA0_ := GP.lts hP
  have hn5 := hI.1.1
  have hc := hI.2.1
  refine g_iconst X dX1_mainGreens_0 ?_
  refine g_aload_n X dX1_mainGreens_1 rfl hl 0 rfl ?_
  refine g_get X hk (v := .ref (ad 7 0)) in_X1 rfl (GP.X hP) 0 (by decide) q142 (rfl) dX1_mainGreens_2 ?_
  refine g_alenQ X hk (n := (gN S)) (GP.Q hP) rfl dX1_mainGreens_5 ?_
  refine g_imul X dX1_mainGreens_6 ?_
  have hs0_ := hS.1
  refine g_newA X hk hS (cA := 5) (t := .boolean) q415 hk.ev.2.2.2.2.2.2.2 rfl (N := (2 * (gN S))) (by first | rfl | omega) (by omega) ⟨Nat.le_of_ble_eq_true rfl, by show 0 + (2 * (gN S)) ≤ 950; omega⟩ dX1_mainGreens_7 (fun qm H hq_ hc_ hk hz_ ho_ hS => ?_)
  have hQ : ce E qm (aQ E 5 (2 * (gN S)) (fun _ => none)) H := hc_
  have hQ_g : s.heap.size ≤ qm := by omega
  have lk_ := lk_new (s0 := s.heap.size) ho_
  have hP := GP.new hP ho_
  refine W.widen (k := (0 + 1)) (n := (0 + 10)) (Nat.le_refl _) (by show 0 + (2 * (gN S)) ≤ (0 + 10); omega) ?_
  have hM : mgK E S s.heap.size (Array.size H) qm (fun _ => none) 0 H := ⟨⟨hQ_g, hQ.lt⟩, hQ, fun i hi => absurd hi (Nat.not_lt_zero i)⟩
  skip
  refine g_astore_n (lv' := [(1, .ref qm), (0, .ref (ad 6 0))]) X dX1_mainGreens_10 rfl hl (by decide) rfl (fun ls hl => ?_)
  refine g_iconst X dX1_mainGreens_11 ?_
  refine g_istore_n (lv' := [(2, .int (iI 0)), (1, .ref qm), (0, .ref (ad 6 0))]) X dX1_mainGreens_12 rfl hl (by decide) rfl (fun ls hl => ?_)
  have loop_13 : gHide (∀ (n_ : Nat) (k : Nat) (f_ : Nat → Option Nat) (v2 : Int) (H : Heap) (locs : List Loc), gN S + 1 ≤ k + n_ → v2 = ((k : Nat) : Int) → (k ≤ gN S) → (kk E s H) → (GP E ad S H) → (va_S (nA s.heap) s.heap H locs) → (mgK E S s.heap.size (Array.size H) qm f_ (2 * k) H) → ∀ (ls : Array Slot), lv_has ls 3 [(2, .int (iI v2)), (1, .ref qm), (0, .ref (ad 6 0))] → W P_ l e_ (gR 5 21 950) s M_ ([.ref (ad 6 0)] : List Value).toArray bl mt_ c_ H locs (1 + 4 * k) (10 + 188 * k) (MQ bl (gQr (nA s.heap) (fun q H1 => ∃ f, mgK E S (Array.size s.heap) (Array.size H1) q f (2 * gN S) H1)) ([.ref (ad 6 0)] : List Value).toArray s 21 950 (nA s.heap)) (F0 M_ 13 ls [])) := by
    intro n_
    induction n_ with
    | zero => intro k f_ v2 H locs hb_ e_v2 hkb hk hP hS hM ls hl; exact absurd hb_ (by omega)
    | succ n_ ih_13 =>
      replace ih_13 := gHide.mk ih_13
      intro k f_ v2 H locs hb_ e_v2 hkb hk hP hS hM ls hl
      subst e_v2
      have hl : lv_has ls 3 [(2, .int (iI ((k : Nat) : Int))), (1, .ref qm), (0, .ref (ad 6 0))] := hl
      refine g_iload_n X dX1_mainGreens_13 rfl hl 0 rfl ?_
      refine g_aload_n X dX1_mainGreens_14 rfl hl 2 rfl ?_
      refine g_get X hk (v := .ref (ad 7 0)) in_X1 rfl (GP.X hP) 0 (by decide) q142 (rfl) dX1_mainGreens_15 ?_
      refine g_alenQ X hk (n := (gN S)) (GP.Q hP) rfl dX1_mainGreens_18 ?_
      refine g_icmp_ge X dX1_mainGreens_19 (tgt := 62) (by decide) (by omega) (fun c19 => ?_) (fun c19 => ?_)
      · refine g_aload_n X dX1_mainGreens_62 rfl hl 1 rfl ?_
        exact g_aret X (Or.inr ⟨_, rfl⟩) hS (⟨f_, by rw [show gN S = k by omega]; exact hM⟩) ⟨by show (1 + 4 * k) ≤ 21; omega, by show (10 + 188 * k) ≤ 950; omega⟩ dX1_mainGreens_63
      · refine g_aload_n X dX1_mainGreens_22 rfl hl 1 rfl ?_
        refine g_iconst X dX1_mainGreens_23 ?_
        refine g_iload_n X dX1_mainGreens_24 rfl hl 0 rfl ?_
        refine g_imul X dX1_mainGreens_25 ?_
        refine g_aload_n X dX1_mainGreens_26 rfl hl 2 rfl ?_
        refine g_aload_n X dX1_mainGreens_27 rfl hl 2 rfl ?_
        refine g_get X hk (v := .ref (ad 7 0)) in_X1 rfl (GP.X hP) 0 (by decide) q142 (rfl) dX1_mainGreens_28 ?_
        refine g_iload_n X dX1_mainGreens_31 rfl hl 0 rfl ?_
        refine g_aald X hk (j := k) (n := (gN S)) (q := (ad 0 k)) (GP.Q hP) (cA := 1) rfl rfl (rfl) (by omega) (rfl) dX1_mainGreens_32 ?_
        refine g_iconst X dX1_mainGreens_33 ?_
        have hL := hLs k (by omega)
        have hMo := hM
        have hsM := hM.1
        have hs0_ := hS.1
        refine g_callr (g_runV X hk (As := [.ref (ad 0 k), .int (iI 0)]) (rest := [.int (iI (2 * ((k : Nat) : Int))), .ref qm]) rfl (GP.X hP) (p_greensOf l E ad S H hP hI k (by omega) (hL) 0) 2 (lw_V q417 q419 qs7 q46 q420) (by decide +kernel) ⟨⟨Nat.le_of_ble_eq_true rfl, Nat.le_of_ble_eq_true rfl⟩, by show (1 + 4 * k) + 2 ≤ 21; omega, by show (10 + 188 * k) + 94 ≤ 950; omega⟩ rfl rfl hl.1 (Nat.le_of_ble_eq_true rfl) dX1_mainGreens_34) hk hS (fun q h => Nat.le_trans hS.1 h) (fun q h => Nat.le_trans hk.N h) (fun q34 H locs hP_ hk hz_ ho_ hS => ?_)
        replace ho_ := lk_nA (fun q h => h) ho_
        obtain ⟨h34_0, h34⟩ := hP_
        have h34_g : s.heap.size ≤ q34 := by omega
        have lk_ := lk_new (s0 := s.heap.size) ho_
        have hP := GP.new hP ho_
        have hM : mgK E S s.heap.size _ qm f_ (2 * k) H := (hMo.kb (fun q h1 h2 => ho_ q h2))
        have hsz_ := h34.lt
        have hmz_ := hM.1
        refine g_aastA X hk hS (cA := 5) (cI := 2) (t := .boolean) ⟨hM.1.1, Nat.le_trans hN0 hM.1.1⟩ hM.2.1 hk.2.2.2.1 (hk.K.2 2 _ rfl).1 h34 (j := 2 * k) (by omega) (by omega) dX1_mainGreens_37 (fun H locs hc_ hk hz_ ho_ hS => ?_)
        have hM := (hM.step (b1 := Array.size H) (jj := k) (hv := 0) ⟨h34_g, by omega, by omega⟩ (by omega) (by omega) h34 hc_ ho_)
        have hP := GP.loc hP hA0_ hM.1.1 ho_
        refine g_aload_n X dX1_mainGreens_38 rfl hl 1 rfl ?_
        refine g_iconst X dX1_mainGreens_39 ?_
        refine g_iload_n X dX1_mainGreens_40 rfl hl 0 rfl ?_
        refine g_imul X dX1_mainGreens_41 ?_
        refine g_iconst X dX1_mainGreens_42 ?_
        refine g_iadd X dX1_mainGreens_43 ?_
        refine g_aload_n X dX1_mainGreens_44 rfl hl 2 rfl ?_
        refine g_aload_n X dX1_mainGreens_45 rfl hl 2 rfl ?_
        refine g_get X hk (v := .ref (ad 7 0)) in_X1 rfl (GP.X hP) 0 (by decide) q142 (rfl) dX1_mainGreens_46 ?_
        refine g_iload_n X dX1_mainGreens_49 rfl hl 0 rfl ?_
        refine g_aald X hk (j := k) (n := (gN S)) (q := (ad 0 k)) (GP.Q hP) (cA := 1) rfl rfl (rfl) (by omega) (rfl) dX1_mainGreens_50 ?_
        refine g_iconst X dX1_mainGreens_51 ?_
        have hMo := hM
        have hsM := hM.1
        have hs0_ := hS.1
        refine g_callr (g_runV X hk (As := [.ref (ad 0 k), .int (iI 1)]) (rest := [.int (iI ((2 * ((k : Nat) : Int)) + 1)), .ref qm]) rfl (GP.X hP) (p_greensOf l E ad S H hP hI k (by omega) (hL) 1) 2 (lw_V q417 q419 qs7 q46 q420) (by decide +kernel) ⟨⟨Nat.le_of_ble_eq_true rfl, Nat.le_of_ble_eq_true rfl⟩, by show ((1 + 4 * k) + 2) + 2 ≤ 21; omega, by show ((10 + 188 * k) + 94) + 94 ≤ 950; omega⟩ rfl rfl hl.1 (Nat.le_of_ble_eq_true rfl) dX1_mainGreens_52) hk hS (fun q h => Nat.le_trans hS.1 h) (fun q h => Nat.le_trans hk.N h) (fun q52 H locs hP_ hk hz_ ho_ hS => ?_)
        replace ho_ := lk_nA (fun q h => h) ho_
        obtain ⟨h52_0, h52⟩ := hP_
        have h52_g : s.heap.size ≤ q52 := by omega
        have lk_ := lk_new (s0 := s.heap.size) ho_
        have hP := GP.new hP ho_
        have hM : mgK E S s.heap.size _ qm (va_up f_ (2 * k) (some q34)) (2 * k + 1) H := (hMo.kb (fun q h1 h2 => ho_ q h2))
        have hsz_ := h52.lt
        have hmz_ := hM.1
        refine g_aastA X hk hS (cA := 5) (cI := 2) (t := .boolean) ⟨hM.1.1, Nat.le_trans hN0 hM.1.1⟩ hM.2.1 hk.2.2.2.1 (hk.K.2 2 _ rfl).1 h52 (j := 2 * k + 1) (by omega) (by omega) dX1_mainGreens_55 (fun H locs hc_ hk hz_ ho_ hS => ?_)
        have hM := (hM.step (b1 := Array.size H) (jj := k) (hv := 1) ⟨h52_g, by omega, by omega⟩ (by omega) (by omega) h52 hc_ ho_)
        have hP := GP.loc hP hA0_ hM.1.1 ho_
        refine g_iinc (lv' := [(2, .int (iI (((k : Nat) : Int) + 1))), (1, .ref qm), (0, .ref (ad 6 0))]) X dX1_mainGreens_56 hl (k := 0) rfl (by decide) rfl (fun ls hl => ?_)
        refine g_goto X dX1_mainGreens_59 (tgt := 13) (by decide) ?_
        refine W.widen (k := 1 + 4 * (k + 1)) (n := 10 + 188 * (k + 1)) (by omega) (by omega) ?_
        exact ih_13.out (k + 1) (va_up (va_up f_ (2 * k) (some q34)) (2 * k + 1) (some q52)) (((k : Nat) : Int) + 1) H locs (by omega) (by omega) (by omega) hk hP hS (show mgK E S s.heap.size _ qm _ (2 * (k + 1)) H from hM) _ (lv_sub hl [0, 1, 2] rfl)
  refine W.widen (k := 1 + 4 * 0) (n := 10 + 188 * 0) (by omega) (by omega) ?_
  exact loop_13.out (gN S + 1) 0 (fun _ => none) 0 H [] (by omega) (rfl) (by omega) hk hP hS hM _ (lv_sub hl [0, 1, 2] rfl)
