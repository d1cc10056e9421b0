/-! the corridor: a bus calls -/
def lsK (f : Nat → Int) : Nat → Int
  | 0 => f 0
  | k + 1 => min (lsK f k) (f k)
def ls2 (x : Int) (i : Nat) : Int := if i = 0 then 5 else x
def ls3 (x y : Int) (i : Nat) : Int := if i = 0 then 5 else if i = 1 then x else y
theorem lsK2 (x : Int) : lsK (ls2 x) 2 = min 5 x := by
  show min (min 5 5) x = _
  omega
theorem lsK3 (x y : Int) : lsK (ls3 x y) 3 = min (min 5 x) y := by
  show min (min (min 5 5) x) y = _
  omega
theorem alV1 (v : Int) : alV (uI (fun _ => 0) 0 v) 1 = decide (0 ≤ v ∧ v ≤ 3) := by
  simp [alV, uI]
theorem lsK_b {f : Nat → Int} {n : Nat} {B : Int} (h : ∀ i, i < n → -B ≤ f i ∧ f i ≤ B) (hn : 0 < n) : ∀ k, k ≤ n → -B ≤ lsK f k ∧ lsK f k ≤ B := by
  intro k
  induction k with
  | zero => intro _; exact h 0 hn
  | succ k ih =>
    intro hk
    have h1 := ih (by omega)
    have h2 := h k (by omega)
    simp only [lsK]
    omega
theorem adset_W {n : Nat} {ad : Nat → Nat → Nat} {a j q : Nat} {H : Heap} (h : H.size ≤ q) : ∀ k i, gv n k i → gW n ad H (adset ad a j q k i) := by
  intro k i hv
  unfold adset
  split
  · exact Or.inr h
  · exact Or.inl ⟨k, i, hv, rfl⟩
section CB
variable {S : GS} {j : Nat} {v : Int}
theorem cbGr_A (h : cbA S j v = true) (p : Nat) : cbGr S j v p = uI (uI (grn S j) (low S j v) (grn S j (low S j v) + cbZ S j v)) (low S j v + 1) (uI (grn S j) (low S j v) (grn S j (low S j v) + cbZ S j v) (low S j v + 1) - cbZ S j v) p := by
  have e : cbG S j v = low S j v + 1 := by unfold cbG; rw [if_pos h]
  unfold cbGr uI
  rw [e]
  by_cases h1 : p = low S j v + 1
  · subst h1
    rw [if_neg (by omega), if_pos rfl, if_pos rfl, if_neg (by omega)]
    omega
  · rw [if_neg h1, if_neg h1]
    by_cases h2 : p = low S j v
    · subst h2
      rw [if_pos rfl, if_pos rfl]
      omega
    · rw [if_neg h2, if_neg h2]
      omega
theorem cbGr_B (h0 : cbA S j v = false) (h : cbB S j v = true) (p : Nat) : cbGr S j v p = uI (uI (grn S j) (cbP S j).toNat (grn S j (cbP S j).toNat - cbZ S j v)) (low S j v) (uI (grn S j) (cbP S j).toNat (grn S j (cbP S j).toNat - cbZ S j v) (low S j v) + cbZ S j v) p := by
  have e : cbG S j v = (cbP S j).toNat := by unfold cbG; rw [if_neg (by rw [h0]; decide), if_pos h]
  unfold cbGr uI
  rw [e]
  by_cases h1 : p = low S j v
  · subst h1
    rw [if_pos rfl, if_pos rfl]
    split
    · rename_i h2
      rw [← h2]
      omega
    · omega
  · rw [if_neg h1, if_neg h1]
    split
    · rename_i h2
      rw [← h2]
      omega
    · omega
theorem cbGr_C (h0 : cbA S j v = false) (h : cbB S j v = false) (p : Nat) : cbGr S j v p = grn S j p := by
  have e : cbZ S j v = 0 := by unfold cbZ; rw [if_neg (by rw [h0]; decide), if_neg (by rw [h]; decide)]
  unfold cbGr
  rw [e]
  split <;> split <;> omega
end CB
set_option maxHeartbeats 4000000 in
theorem p_least (l : Launch) (E : EP) (q n : Nat) (f : Nat → Int) (H : Heap) (hq : ce E q (aI E n f) H) (hn : 0 < n ∧ n ≤ 3) (hf : ∀ i, i < n → -1000000 ≤ f i ∧ f i ≤ 1000000) : gP l E yX1_least cX1_least 6 .int 1 H [.ref q] (lsK f n) := by
  refine g_met (plainFor_of_name (by decide)) (Nat.le_of_ble_eq_true rfl) (fun P_ e_ s M_ bl mt_ c_ ls X _ hk hh hl => ?_)
  subst hh
  have X : gX P_ s M_ mt_ c_ cX1_least 6 ([.ref q] : List Value).toArray RX1 (some .int) := X
  have hl : lv_has ls 6 [(0, .ref q)] := hl
  refine g_aload_n X dX1_least_0 rfl hl 0 rfl ?_
  refine g_iconst X dX1_least_1 ?_
  refine g_ialdv X hk (j := 0) (n := n) (f := f) (v := (f 0)) hq (rfl) (by omega) (rfl) dX1_least_2 ?_
  refine g_istore_n (lv' := [(1, .int (iI (f 0))), (0, .ref q)]) X dX1_least_3 rfl hl (by decide) rfl (fun ls hl => ?_)
  refine g_aload_n X dX1_least_4 rfl hl 1 rfl ?_
  refine g_astore_n (lv' := [(2, .ref q), (1, .int (iI (f 0))), (0, .ref q)]) X dX1_least_5 rfl hl (by decide) rfl (fun ls hl => ?_)
  refine g_aload_n X dX1_least_6 rfl hl 0 rfl ?_
  refine g_alenI X hk (n := n) hq dX1_least_7 ?_
  refine g_istore_n (lv' := [(3, .int (iI ((n : Nat) : Int))), (2, .ref q), (1, .int (iI (f 0))), (0, .ref q)]) X dX1_least_8 rfl hl (by decide) rfl (fun ls hl => ?_)
  refine g_iconst X dX1_least_9 ?_
  refine g_istore (lv' := [(4, .int (iI 0)), (3, .int (iI ((n : Nat) : Int))), (2, .ref q), (1, .int (iI (f 0))), (0, .ref q)]) X dX1_least_10 hl (by decide) rfl (fun ls hl => ?_)
  have loop_12 : gHide (∀ (n_ : Nat) (k : Nat) (v4 : Int) (v1 : Int), n + 1 ≤ k + n_ → v4 = ((k : Nat) : Int) → v1 = (lsK f k) → (k ≤ n) → ∀ (ls : Array Slot), lv_has ls 6 [(4, .int (iI v4)), (1, .int (iI v1)), (3, .int (iI ((n : Nat) : Int))), (2, .ref q), (0, .ref q)] → W P_ l e_ (gR 1 0 0) s M_ ([.ref q] : List Value).toArray bl mt_ c_ s.heap [] 0 0 (MQ bl (QcRead (iI (lsK f n))) ([.ref q] : List Value).toArray s 0 0 (fun _ => False)) (F0 M_ 12 ls [])) := by
    intro n_
    induction n_ with
    | zero => intro k v4 v1 hb_ e_v4 e_v1 hkb ls hl; exact absurd hb_ (by omega)
    | succ n_ ih_12 =>
      replace ih_12 := gHide.mk ih_12
      intro k v4 v1 hb_ e_v4 e_v1 hkb ls hl
      subst e_v4
      subst e_v1
      have hl : lv_has ls 6 [(4, .int (iI ((k : Nat) : Int))), (1, .int (iI (lsK f k))), (3, .int (iI ((n : Nat) : Int))), (2, .ref q), (0, .ref q)] := hl
      refine g_iload X dX1_least_12 hl 0 rfl ?_
      refine g_iload_n X dX1_least_14 rfl hl 2 rfl ?_
      refine g_icmp_ge X dX1_least_15 (tgt := 37) (by decide) (by omega) (fun c15 => ?_) (fun c15 => ?_)
      · refine g_iload_n X dX1_least_37 rfl hl 1 rfl ?_
        exact g_iretP X (by rw [show n = k by omega]) dX1_least_38
      · refine g_aload_n X dX1_least_18 rfl hl 3 rfl ?_
        refine g_iload X dX1_least_19 hl 0 rfl ?_
        refine g_ialdv X hk (j := k) (n := n) (f := f) (v := (f k)) hq (rfl) (by omega) (rfl) dX1_least_21 ?_
        refine g_istore (lv' := [(5, .int (iI (f k))), (4, .int (iI ((k : Nat) : Int))), (1, .int (iI (lsK f k))), (3, .int (iI ((n : Nat) : Int))), (2, .ref q), (0, .ref q)]) X dX1_least_22 hl (by decide) rfl (fun ls hl => ?_)
        refine g_iload_n X dX1_least_24 rfl hl 2 rfl ?_
        refine g_iload X dX1_least_25 hl 0 rfl ?_
        have hfk := hf k (by omega)
        have hlk := lsK_b hf hn.1 k hkb
        refine g_pS X hk (As := [.int (iI (lsK f k)), .int (iI (f k))]) (rest := []) (p_min l E (lsK f k) (f k) s.heap (by omega) (by omega)) 2 (lw_S q539 q540 q57 q541) (by decide +kernel) ⟨⟨Nat.le_of_ble_eq_true rfl, Nat.le_of_ble_eq_true rfl⟩, Nat.le_of_ble_eq_true rfl, Nat.le_of_ble_eq_true rfl⟩ rfl rfl hl.1 (Nat.le_of_ble_eq_true rfl) dX1_least_27 ?_
        refine g_istore_n (lv' := [(1, .int (iI (min (lsK f k) (f k)))), (5, .int (iI (f k))), (4, .int (iI ((k : Nat) : Int))), (3, .int (iI ((n : Nat) : Int))), (2, .ref q), (0, .ref q)]) X dX1_least_30 rfl hl (by decide) rfl (fun ls hl => ?_)
        refine g_iinc (lv' := [(4, .int (iI (((k : Nat) : Int) + 1))), (1, .int (iI (min (lsK f k) (f k)))), (5, .int (iI (f k))), (3, .int (iI ((n : Nat) : Int))), (2, .ref q), (0, .ref q)]) X dX1_least_31 hl (k := 2) rfl (by decide) rfl (fun ls hl => ?_)
        refine g_goto X dX1_least_34 (tgt := 12) (by decide) ?_
        exact ih_12.out (k + 1) (((k : Nat) : Int) + 1) (min (lsK f k) (f k)) (by omega) (by omega) (rfl) (by omega) _ (lv_sub hl [0, 1, 3, 4, 5] rfl)
  exact loop_12.out (n + 1) 0 0 (f 0) (by omega) (rfl) (rfl) (by omega) _ (lv_sub hl [0, 3, 1, 2, 4] rfl)
set_option maxHeartbeats 4000000 in
theorem p_lowestWith (l : Launch) (E : EP) (ad : Nat → Nat → Nat) (S : GS) (H : Heap) (hP : GP E ad S H) (hI : gI S) (j : Nat) (hj : j < gN S) (v : Int) : gP l E yX1_lowestWith cX1_lowestWith 3 .int 1 H [.ref (ad 0 j), .int (iI v)] (low S j v : Int) := by
  refine g_met (plainFor_of_name (by decide)) (Nat.le_of_ble_eq_true rfl) (fun P_ e_ s M_ bl mt_ c_ ls X _ hk hh hl => ?_)
  subst hh
  have X : gX P_ s M_ mt_ c_ cX1_lowestWith 3 ([.ref (ad 0 j), .int (iI v)] : List Value).toArray RX1 (some .int) := X
  have hl : lv_has ls 3 [(0, .ref (ad 0 j)), (1, .int (iI v))] := hl
  have hnp := (hI.2.2 j hj).1
  refine g_iconst X dX1_lowestWith_0 ?_
  refine g_istore_n (lv' := [(2, .int (iI 0)), (0, .ref (ad 0 j)), (1, .int (iI v))]) X dX1_lowestWith_1 rfl hl (by decide) rfl (fun ls hl => ?_)
  have loop_2 : gHide (∀ (n_ : Nat) (k : Nat) (v2 : Int), gNp S j + 1 ≤ k + n_ → v2 = ((k : Nat) : Int) → (k ≤ gNp S j) → (low S j v = lowK S j v (gNp S j - k) k) → ∀ (ls : Array Slot), lv_has ls 3 [(2, .int (iI v2)), (0, .ref (ad 0 j)), (1, .int (iI v))] → W P_ l e_ (gR 1 0 0) s M_ ([.ref (ad 0 j), .int (iI v)] : List Value).toArray bl mt_ c_ s.heap [] 0 0 (MQ bl (QcRead (iI (low S j v : Int))) ([.ref (ad 0 j), .int (iI v)] : List Value).toArray s 0 0 (fun _ => False)) (F0 M_ 2 ls [])) := by
    intro n_
    induction n_ with
    | zero => intro k v2 hb_ e_v2 hkb hlo ls hl; exact absurd hb_ (by omega)
    | succ n_ ih_2 =>
      replace ih_2 := gHide.mk ih_2
      intro k v2 hb_ e_v2 hkb hlo ls hl
      subst e_v2
      have hl : lv_has ls 3 [(2, .int (iI ((k : Nat) : Int))), (0, .ref (ad 0 j)), (1, .int (iI v))] := hl
      have join_30 : gHide (∀ (ls : Array Slot), (low S j v = k) → lv_has ls 3 [(2, .int (iI ((k : Nat) : Int))), (0, .ref (ad 0 j)), (1, .int (iI v))] → W P_ l e_ (gR 1 0 0) s M_ ([.ref (ad 0 j), .int (iI v)] : List Value).toArray bl mt_ c_ s.heap [] 0 0 (MQ bl (QcRead (iI (low S j v : Int))) ([.ref (ad 0 j), .int (iI v)] : List Value).toArray s 0 0 (fun _ => False)) (F0 M_ 30 ls [])) := by
        intro ls hek hl
        have hl : lv_has ls 3 [(2, .int (iI ((k : Nat) : Int))), (0, .ref (ad 0 j)), (1, .int (iI v))] := hl
        refine g_iload_n X dX1_lowestWith_30 rfl hl 0 rfl ?_
        exact g_iretP X (by rw [hek]) dX1_lowestWith_31
      refine g_iload_n X dX1_lowestWith_2 rfl hl 0 rfl ?_
      refine g_aload_n X dX1_lowestWith_3 rfl hl 1 rfl ?_
      refine g_getN X hk (v := .ref (ad 3 j)) (host := "Greenwave") in_X2 rfl (GP.J hP hj) 3 (by decide) 3 rfl (rfl) dX1_lowestWith_4 ?_
      refine g_alenI X hk (n := (gNp S j)) (GP.P hP hj) dX1_lowestWith_7 ?_
      refine g_icmp_ge X dX1_lowestWith_8 (tgt := 30) (by decide) (by omega) (fun c8 => ?_) (fun c8 => ?_)
      · exact join_30.out _ (by first | (rw [hlo, show gNp S j - k = 0 by omega]; rfl) | (rw [hlo, hls, if_pos (by grind [bZ])])) (lv_sub hl [0, 1, 2] rfl)
      · refine g_aload_n X dX1_lowestWith_11 rfl hl 1 rfl ?_
        refine g_getN X hk (v := .ref (ad 3 j)) (host := "Greenwave") in_X2 rfl (GP.J hP hj) 3 (by decide) 3 rfl (rfl) dX1_lowestWith_12 ?_
        refine g_iload_n X dX1_lowestWith_15 rfl hl 0 rfl ?_
        refine g_ialdv X hk (j := k) (n := (gNp S j)) (f := (gPh S j)) (v := ((gPh S j) k)) (GP.P hP hj) (rfl) (by omega) (rfl) dX1_lowestWith_16 ?_
        refine g_iload_n X dX1_lowestWith_17 rfl hl 2 rfl ?_
        refine g_pS X hk (As := [.int (iI ((gPh S j) k)), .int (iI v)]) (rest := []) (p_has l E ((gPh S j) k) v s.heap) 2 (lw_S q323 q324 q46 q325) (by decide +kernel) ⟨⟨Nat.le_of_ble_eq_true rfl, Nat.le_of_ble_eq_true rfl⟩, Nat.le_of_ble_eq_true rfl, Nat.le_of_ble_eq_true rfl⟩ rfl rfl hl.1 (Nat.le_of_ble_eq_true rfl) dX1_lowestWith_18 ?_
        have h21 := bZ_le (hasB (gPh S j k) v)
        have hls := lowK_step (S := S) (j := j) (v := v) (show k < gNp S j by omega)
        refine g_if_ne X dX1_lowestWith_21 (tgt := 30) (by decide) (by omega) (fun c21 => ?_) (fun c21 => ?_)
        · exact join_30.out _ (by first | (rw [hlo, show gNp S j - k = 0 by omega]; rfl) | (rw [hlo, hls, if_pos (by grind [bZ])])) (lv_sub hl [0, 1, 2] rfl)
        · refine g_iinc (lv' := [(2, .int (iI (((k : Nat) : Int) + 1))), (0, .ref (ad 0 j)), (1, .int (iI v))]) X dX1_lowestWith_24 hl (k := 0) rfl (by decide) rfl (fun ls hl => ?_)
          refine g_goto X dX1_lowestWith_27 (tgt := 2) (by decide) ?_
          exact ih_2.out (k + 1) (((k : Nat) : Int) + 1) (by omega) (by omega) (by omega) (by rw [hlo, hls, if_neg (by grind [bZ])]) _ (lv_sub hl [0, 1, 2] rfl)
  exact loop_2.out (gNp S j + 1) 0 0 (by omega) (rfl) (by omega) rfl _ (lv_sub hl [0, 1, 2] rfl)
set_option maxHeartbeats 4000000 in
theorem p_callBus (l : Launch) (E : EP) (hst : l.stackTraces = false) (ad : Nat → Nat → Nat) (S : GS) (j v : Int) (H : Heap) (hP : GP E ad S H) (hI : gI S) (hj : -2147483648 ≤ j ∧ j ≤ 2147483647) (hv : -2147483648 ≤ v ∧ v ≤ 2147483647) : gCi l E yX1_callBus cX1_callBus 9 .int 9 6 26 H [.ref (ad 6 0), .int (iI j), .int (iI v)] (gW (gN S) ad H) (fun z H1 => erU S j v = 0 ∧ z = cbZ S (j.toNat) v ∧ ∃ ad1, GP E ad1 (cbS S (j.toNat) v) H1 ∧ adW (gN S) (gN S) ad H ad1) (xC (erU S j v) [nIx, nSt]) := by
  refine g_metX (by decide) (Nat.le_of_ble_eq_true rfl) (fun P_ e_ s M_ bl mt_ c_ ls X hno_ hk hh hl => ?_)
  subst hh
  have X : gX P_ s M_ mt_ c_ cX1_callBus 9 ([.ref (ad 6 0), .int (iI j), .int (iI v)] : List Value).toArray RX1 (some .int) := X
  have hl : lv_has ls 9 [(0, .ref (ad 6 0)), (1, .int (iI j)), (2, .int (iI v))] := hl
  have hS : va_S (nA s.heap) s.heap s.heap [] := va_S.rf
  have hN0 : eN E ≤ s.heap.size := hk.N
  have hA0_ := GP.lts hP
  have hn5 := hI.1.1
  have hc := hI.2.1
  have hrun := hI.1.2.1
  have hnow := hI.1.2.2
  have alV_eq := alV1 v
  refine g_aload_n X dX1_callBus_0 rfl hl 0 rfl ?_
  refine g_iload_n X dX1_callBus_1 rfl hl 1 rfl ?_
  refine g_iconst X dX1_callBus_2 ?_
  have hs0_ := hS.1
  refine g_newI X hk hS (N := 1) (by first | rfl | omega) (by omega) ⟨Nat.le_of_ble_eq_true rfl, Nat.le_of_ble_eq_true rfl⟩ dX1_callBus_3 (fun qv H hq_ hc_ hk hz_ ho_ hS => ?_)
  have hV : ce E qv (aI E 1 (fun _ => 0)) H := hc_
  have hV_g : s.heap.size ≤ qv := by omega
  have lk_ := lk_new (s0 := s.heap.size) ho_
  have hP := GP.new hP ho_
  refine g_dup X dX1_callBus_5 rfl ?_
  refine g_iconst X dX1_callBus_6 ?_
  refine g_iload_n X dX1_callBus_7 rfl hl 2 rfl ?_
  refine g_iast X hk hS ⟨hV_g, Nat.le_trans hN0 hV_g⟩ (j := 0) (n := 1) (f := (fun _ => 0)) hV (rfl) (by omega) dX1_callBus_8 (fun H locs hc_ hk hz_ ho_ hS => ?_)
  have hP := GP.loc hP hA0_ hV_g ho_
  have hV : ce E qv (aI E 1 (uI (fun _ => 0) 0 v)) H := hc_
  refine g_xcallrE (g_xrunV X hk (As := [.int (iI j), .ref qv]) (rest := []) rfl (GP.X hP) (p_junctionWith l E hst ad S j qv 1 (uI (fun _ => 0) 0 v) H hP hI (by omega) hV (by omega) (by intro i hi; simp [uI, show i = 0 by omega]; omega)) 2 (lw_V q297 q299 qs2 q46 q300) (by decide +kernel) ⟨⟨Nat.le_of_ble_eq_true rfl, Nat.le_of_ble_eq_true rfl⟩, Nat.le_of_ble_eq_true rfl, Nat.le_of_ble_eq_true rfl⟩ rfl rfl hl.1 (Nat.le_of_ble_eq_true rfl) dX1_callBus_9) X hno_ hk hS (fun q h => Nat.le_trans hS.1 h) (fun q h => Nat.le_trans hk.N h) (fun q h => Or.inr h) (fun Ex h => by obtain ⟨h1, rfl⟩ := h.one; exact ⟨0, by unfold erU; revert h1; unfold erW; rw [alV_eq]; grind, rfl⟩) ⟨Nat.le_of_ble_eq_true rfl, Nat.le_of_ble_eq_true rfl⟩ (fun locs hB9 hS => ?_)
  have hj1 : (j).toNat < gN S := by omega
  have h9 : 0 ≤ v ∧ v ≤ 3 := by have := hB9.2; rw [alV_eq] at this; exact of_decide_eq_true this
  have hnp := (hI.2.2 (j.toNat) hj1).1
  skip
  refine g_astore_n (lv' := [(3, .ref (ad 0 ((j).toNat))), (0, .ref (ad 6 0)), (1, .int (iI j)), (2, .int (iI v))]) X dX1_callBus_12 rfl hl (by decide) rfl (fun ls hl => ?_)
  refine g_aload_n X dX1_callBus_13 rfl hl 1 rfl ?_
  refine g_xcallvE (g_xrunV X hk (As := []) (rest := []) rfl (GP.X hP) (p_requirePlans l E hst ad S H hP hI) 0 (lw_V q392 q394 qs5 q46 q395) (by decide +kernel) ⟨⟨Nat.le_of_ble_eq_true rfl, Nat.le_of_ble_eq_true rfl⟩, Nat.le_of_ble_eq_true rfl, Nat.le_of_ble_eq_true rfl⟩ rfl rfl hl.1 (Nat.le_of_ble_eq_true rfl) dX1_callBus_14) X hno_ hk hS (fun q h => Nat.le_trans hS.1 h) (fun q h => Nat.le_trans hk.N h) (fun q h => Or.inr h) (fun Ex h => by obtain ⟨h1, rfl⟩ := h.one; exact ⟨1, by unfold erU; revert h1; unfold erD; grind, rfl⟩) ⟨Nat.le_of_ble_eq_true rfl, Nat.le_of_ble_eq_true rfl⟩ (fun locs hB14 hS => ?_)
  have hLs := alP_L hB14
  have join_50 : gHide (∀ (z : Int) (v4 : Int) (ls : Array Slot), z = (bZ (decide ((low S (j.toNat) v) < gNp S (j.toNat) ∧ chg S (j.toNat) (gNow S) = false))) → v4 = (((low S (j.toNat) v) : Nat) : Int) → lv_has ls 9 [(4, .int (iI v4)), (3, .ref (ad 0 ((j).toNat))), (0, .ref (ad 6 0)), (1, .int (iI j)), (2, .int (iI v))] → W P_ l e_ (gR 9 6 26) s M_ ([.ref (ad 6 0), .int (iI j), .int (iI v)] : List Value).toArray bl mt_ c_ H locs (((0 + 1) + 2) + 1) (((0 + 1) + 12) + 6) (vx_MQ bl (gQi (gW (gN S) ad s.heap) (fun z H1 => erU S j v = 0 ∧ z = cbZ S (j.toNat) v ∧ ∃ ad1, GP E ad1 (cbS S (j.toNat) v) H1 ∧ adW (gN S) (gN S) ad s.heap ad1)) (gXD (xC (erU S j v) [nIx, nSt])) ([.ref (ad 6 0), .int (iI j), .int (iI v)] : List Value).toArray s 6 26 (gW (gN S) ad s.heap)) (F0 M_ 50 ls [.int (iI z)])) := by
    intro z v4 ls e_z e_v4 hl
    subst e_z
    subst e_v4
    have hl : lv_has ls 9 [(4, .int (iI (((low S (j.toNat) v) : Nat) : Int))), (3, .ref (ad 0 ((j).toNat))), (0, .ref (ad 6 0)), (1, .int (iI j)), (2, .int (iI v))] := hl
    have hz50 := bZ_le (decide ((low S (j.toNat) v) < gNp S (j.toNat) ∧ chg S (j.toNat) (gNow S) = false))
    refine (show (bZ (decide ((low S (j.toNat) v) < gNp S (j.toNat) ∧ chg S (j.toNat) (gNow S) = false))) = 0 ∨ (bZ (decide ((low S (j.toNat) v) < gNp S (j.toNat) ∧ chg S (j.toNat) (gNow S) = false))) = 1 by omega).elim (fun z50 => ?_) (fun z50 => ?_)
    · exact g_thxS X hno_ hk (As := [.int (iI (bZ (decide ((low S (j.toNat) v) < gNp S (j.toNat) ∧ chg S (j.toNat) (gNow S) = false))))]) (rest := []) (rq_State_t l E hst H (bZ (decide ((low S (j.toNat) v) < gNp S (j.toNat) ∧ chg S (j.toNat) (gNow S) = false))) z50) 1 (lw_S q326 q327 q46 q328) (by decide +kernel) ⟨⟨Nat.le_of_ble_eq_true rfl, Nat.le_of_ble_eq_true rfl⟩, Nat.le_of_ble_eq_true rfl, Nat.le_of_ble_eq_true rfl⟩ rfl rfl hl.1 (Nat.le_of_ble_eq_true rfl) dX1_callBus_50 hS (fun q h => Or.inr h) (⟨1, by unfold erU; grind [bZ], rfl⟩) ⟨Nat.le_of_ble_eq_true rfl, Nat.le_of_ble_eq_true rfl⟩
    refine g_callE (g_runS X hk (As := [.int (iI (bZ (decide ((low S (j.toNat) v) < gNp S (j.toNat) ∧ chg S (j.toNat) (gNow S) = false))))]) (rest := []) (rq_State l E H (bZ (decide ((low S (j.toNat) v) < gNp S (j.toNat) ∧ chg S (j.toNat) (gNow S) = false))) z50) 1 (lw_S q326 q327 q46 q328) (by decide +kernel) ⟨⟨Nat.le_of_ble_eq_true rfl, Nat.le_of_ble_eq_true rfl⟩, Nat.le_of_ble_eq_true rfl, Nat.le_of_ble_eq_true rfl⟩ rfl rfl hl.1 (Nat.le_of_ble_eq_true rfl) dX1_callBus_50) ?_
    have h50 : (low S (j.toNat) v) < gNp S (j.toNat) ∧ chg S (j.toNat) (gNow S) = false := by grind [bZ]
    have hz : erU S j v = 0 := by unfold erU; grind
    have hLj := hLs (j.toNat) hj1
    have hnq : gNp (gset S 33 0 0 1) (j.toNat) = gNp S (j.toNat) := rfl
    have hI1 := gI_run hI
    have hpl := plE_run S 1 (j.toNat)
    have egr : grn (gset S 33 0 0 1) (j.toNat) = grn S (j.toNat) := by funext p; exact pl_grn hpl p
    have ecl : clr (gset S 33 0 0 1) (j.toNat) = clr S (j.toNat) := by funext p; exact pl_clr hpl p
    have hof := (hI.2.2 (j.toNat) hj1).2.2.2.2.1
    have hem := em_b (gNow S - gOff S (j.toNat)) (gCyc S) hc.1
    have hcl0 : 0 ≤ cbL S (j.toNat) ∧ cbL S (j.toNat) < gCyc S := hem
    have hgb : ∀ i, i < gNp S (j.toNat) → lst S (j.toNat) i ≤ grn S (j.toNat) i ∧ 5 ≤ grn S (j.toNat) i ∧ grn S (j.toNat) i ≤ 94 := fun i hi => grn_b hI hj1 hLj hi
    have hg : ∀ i, i < gNp S (j.toNat) → 0 ≤ grn S (j.toNat) i ∧ grn S (j.toNat) i ≤ 1000 := fun i hi => by have := hgb i hi; omega
    skip
    refine g_aload_n X dX1_callBus_53 rfl hl 2 rfl ?_
    refine g_iconst X dX1_callBus_54 ?_
    have hS : va_S (gW (gN S) ad s.heap) s.heap H _ := g_ws hS (fun q h => Or.inr h)
    refine g_put X hk hS ⟨Or.inl ⟨6, 0, gv_6, rfl⟩, hP.2.2 _ _ gv_6⟩ in_X1 tyX1 tyX1_ok nmX1 rfl (GP.X hP) 3 (by decide) q145 rfl (ty := .boolean) (by decide +kernel) (iI_narB _ (by omega)) rfl (Nat.le_of_ble_eq_true rfl) dX1_callBus_55 (fun H locs hc_ hk hz_ ho_ hS => ?_)
    have hP : GP E ad (gset S 33 0 0 1) H := GP.putX hP 3 rfl hc_ ho_
    refine g_aload_n X dX1_callBus_58 rfl hl 1 rfl ?_
    refine g_aload_n X dX1_callBus_59 rfl hl 2 rfl ?_
    refine g_get X hk (v := .int (iI (gNow S))) in_X1 rfl (GP.X hP) 2 (by decide) q144 (rfl) dX1_callBus_60 ?_
    refine g_pV X hk (As := [.int (iI (gNow S))]) (rest := []) rfl (GP.J hP hj1) (p_placeIn l E ad (gset S 33 0 0 1) H hP hI1 ((j).toNat) hj1 (gNow S) (by omega)) 1 (lw_V q442 q443 q444 q47 q445) (by decide +kernel) ⟨⟨Nat.le_of_ble_eq_true rfl, Nat.le_of_ble_eq_true rfl⟩, Nat.le_of_ble_eq_true rfl, Nat.le_of_ble_eq_true rfl⟩ rfl rfl hl.1 (Nat.le_of_ble_eq_true rfl) dX1_callBus_63 ?_
    refine g_istore (lv' := [(5, .int (iI (((gNow S) - gOff (gset S 33 0 0 1) ((j).toNat)) % gCyc (gset S 33 0 0 1)))), (4, .int (iI (((low S (j.toNat) v) : Nat) : Int))), (3, .ref (ad 0 ((j).toNat))), (0, .ref (ad 6 0)), (1, .int (iI j)), (2, .int (iI v))]) X dX1_callBus_66 hl (by decide) rfl (fun ls hl => ?_)
    have ev5 : (((gNow S) - gOff (gset S 33 0 0 1) ((j).toNat)) % gCyc (gset S 33 0 0 1)) = (cbL S (j.toNat)) := rfl
    rw [ev5] at hl
    have hl : lv_has ls 9 [(5, .int (iI (cbL S (j.toNat)))), (4, .int (iI (((low S (j.toNat) v) : Nat) : Int))), (3, .ref (ad 0 ((j).toNat))), (0, .ref (ad 6 0)), (1, .int (iI j)), (2, .int (iI v))] := hl
    refine g_aload_n X dX1_callBus_68 rfl hl 2 rfl ?_
    have hs0_ := hS.1
    refine g_callr (g_runV X hk (As := []) (rest := []) rfl (GP.J hP hj1) (p_greens l E ad (gset S 33 0 0 1) H hP hI1 ((j).toNat) hj1 ((show 0 ≤ lft (gset S 33 0 0 1) (j.toNat) by rw [pl_lft hpl]; exact hLj))) 0 (lw_V q421 q422 q423 q47 q424) (by decide +kernel) ⟨⟨Nat.le_of_ble_eq_true rfl, Nat.le_of_ble_eq_true rfl⟩, Nat.le_of_ble_eq_true rfl, Nat.le_of_ble_eq_true rfl⟩ rfl rfl hl.1 (Nat.le_of_ble_eq_true rfl) dX1_callBus_69) hk hS (fun q h => Or.inr (Nat.le_trans hS.1 h)) (fun q h => Nat.le_trans hk.N h) (fun qg H locs hP_ hk hz_ ho_ hS => ?_)
    replace ho_ := lk_nA (fun q h => h) ho_
    obtain ⟨hG_0, hG⟩ := hP_
    have hG_g : s.heap.size ≤ qg := by omega
    have lk_ := lk_new (s0 := s.heap.size) ho_
    have hP := GP.new hP ho_
    have hG : ce E qg (aI E (gNp S (j.toNat)) (grn S (j.toNat))) H := by rw [← egr]; exact hG
    refine g_astore (lv' := [(6, .ref qg), (5, .int (iI (cbL S (j.toNat)))), (4, .int (iI (((low S (j.toNat) v) : Nat) : Int))), (3, .ref (ad 0 ((j).toNat))), (0, .ref (ad 6 0)), (1, .int (iI j)), (2, .int (iI v))]) X dX1_callBus_72 hl (by decide) rfl (fun ls hl => ?_)
    refine g_aload_n X dX1_callBus_74 rfl hl 3 rfl ?_
    refine g_iload X dX1_callBus_75 hl 1 rfl ?_
    refine g_aload X dX1_callBus_77 hl 0 rfl ?_
    refine g_pV X hk (As := [.int (iI (cbL S (j.toNat))), .ref qg]) (rest := []) rfl (GP.J hP hj1) (p_phaseAt l E ad (gset S 33 0 0 1) H hP hI1 ((j).toNat) hj1 (cbL S (j.toNat)) (by omega) qg (grn S (j.toNat)) hG hg) 2 (lw_V q430 q431 q432 q47 q433) (by decide +kernel) ⟨⟨Nat.le_of_ble_eq_true rfl, Nat.le_of_ble_eq_true rfl⟩, Nat.le_of_ble_eq_true rfl, Nat.le_of_ble_eq_true rfl⟩ rfl rfl hl.1 (Nat.le_of_ble_eq_true rfl) dX1_callBus_79 ?_
    refine g_istore (lv' := [(7, .int (iI (phA (grn S (j.toNat)) (clr (gset S 33 0 0 1) ((j).toNat)) (gNp (gset S 33 0 0 1) ((j).toNat)) 0 (cbL S (j.toNat))))), (6, .ref qg), (5, .int (iI (cbL S (j.toNat)))), (4, .int (iI (((low S (j.toNat) v) : Nat) : Int))), (3, .ref (ad 0 ((j).toNat))), (0, .ref (ad 6 0)), (1, .int (iI j)), (2, .int (iI v))]) X dX1_callBus_82 hl (by decide) rfl (fun ls hl => ?_)
    have ev7 : (phA (grn S (j.toNat)) (clr (gset S 33 0 0 1) ((j).toNat)) (gNp (gset S 33 0 0 1) ((j).toNat)) 0 (cbL S (j.toNat))) = (cbP S (j.toNat)) := by rw [ecl]; rfl
    rw [ev7] at hl
    have hl : lv_has ls 9 [(7, .int (iI (cbP S (j.toNat)))), (6, .ref qg), (5, .int (iI (cbL S (j.toNat)))), (4, .int (iI (((low S (j.toNat) v) : Nat) : Int))), (3, .ref (ad 0 ((j).toNat))), (0, .ref (ad 6 0)), (1, .int (iI j)), (2, .int (iI v))] := hl
    have hpr := phA_rng (grn S (j.toNat)) (clr S (j.toNat)) (gNp S (j.toNat)) 0 (cbL S (j.toNat))
    have hpr : (cbP S (j.toNat)) = -1 ∨ (0 ≤ (cbP S (j.toNat)) ∧ (cbP S (j.toNat)) < gNp S (j.toNat)) := by unfold cbP; omega
    refine g_iconst X dX1_callBus_84 ?_
    have join_235 : gHide (∀ (v8 : Int) (H : Heap) (locs : List Loc) (ls : Array Slot), v8 = (cbZ S (j.toNat) v) → (kk E s H) → (GP E ad (gset S 33 0 0 1) H) → (va_S (gW (gN S) ad s.heap) s.heap H locs) → (ce E qg (aI E (gNp S (j.toNat)) (cbGr S (j.toNat) v)) H) → lv_has ls 9 [(8, .int (iI v8)), (6, .ref qg), (5, .int (iI (cbL S (j.toNat)))), (4, .int (iI (((low S (j.toNat) v) : Nat) : Int))), (3, .ref (ad 0 ((j).toNat))), (0, .ref (ad 6 0)), (1, .int (iI j)), (2, .int (iI v))] → W P_ l e_ (gR 9 6 26) s M_ ([.ref (ad 6 0), .int (iI j), .int (iI v)] : List Value).toArray bl mt_ c_ H locs 6 26 (vx_MQ bl (gQi (gW (gN S) ad s.heap) (fun z H1 => erU S j v = 0 ∧ z = cbZ S (j.toNat) v ∧ ∃ ad1, GP E ad1 (cbS S (j.toNat) v) H1 ∧ adW (gN S) (gN S) ad s.heap ad1)) (gXD (xC (erU S j v) [nIx, nSt])) ([.ref (ad 6 0), .int (iI j), .int (iI v)] : List Value).toArray s 6 26 (gW (gN S) ad s.heap)) (F0 M_ 235 ls [])) := by
      intro v8 H locs ls e_v8 hk hP hS hG hl
      subst e_v8
      have hl : lv_has ls 9 [(8, .int (iI (cbZ S (j.toNat) v))), (6, .ref qg), (5, .int (iI (cbL S (j.toNat)))), (4, .int (iI (((low S (j.toNat) v) : Nat) : Int))), (3, .ref (ad 0 ((j).toNat))), (0, .ref (ad 6 0)), (1, .int (iI j)), (2, .int (iI v))] := hl
      skip
      refine g_aload_n X dX1_callBus_235 rfl hl 4 rfl ?_
      refine g_aload X dX1_callBus_236 hl 1 rfl ?_
      have hP0 := hP
      have hGn : ∀ k i, gv (gN S) k i → ad k i ≠ qg := fun k i hv e => by have := hA0_ k i hv; omega
      refine g_putN X hk hS ⟨Or.inl ⟨0, ((j).toNat), gv_0 (by decide) (by omega), rfl⟩, hP.2.2 _ _ (gv_0 (by decide) hj1)⟩ in_X2 tyX2 tyX2_ok nmX2 rfl (GP.J hP hj1) 7 (by decide) 7 rfl rfl (ty := .array .int) (by decide +kernel) rfl rfl (Nat.le_of_ble_eq_true rfl) dX1_callBus_238 (fun H locs hc_ hk hz_ ho_ hS => ?_)
      have hG := hG.kept (ho_ _ (fun e => hGn 0 ((j).toNat) (gv_0 (by decide) hj1) e.symm))
      have hP : GP E (adset ad 4 ((j).toNat) qg) (gchs (gset S 33 0 0 1) ((j).toNat) (gNp S ((j).toNat)) (cbGr S ((j).toNat) v)) H := GP.chs hP hj1 hGn (Nat.le_trans hN0 hG_g) hc_ hG ho_
      refine g_aload_n X dX1_callBus_241 rfl hl 4 rfl ?_
      refine g_aload_n X dX1_callBus_242 rfl hl 5 rfl ?_
      refine g_get X hk (v := .int (iI (gNow (gchs (gset S 33 0 0 1) ((j).toNat) (gNp S ((j).toNat)) (cbGr S ((j).toNat) v))))) in_X1 rfl (GP.X (ad := (adset ad 4 ((j).toNat) qg)) hP) 2 (by decide) q144 (rfl) dX1_callBus_243 ?_
      refine g_iload X dX1_callBus_246 hl 2 rfl ?_
      refine g_isub X dX1_callBus_248 ?_
      refine g_putN X hk hS (a := ad 0 ((j).toNat)) ⟨Or.inl ⟨0, ((j).toNat), gv_0 (by decide) hj1, rfl⟩, hP0.2.2 0 ((j).toNat) (gv_0 (by decide) hj1)⟩ in_X2 tyX2 tyX2_ok nmX2 rfl (fs := jF (adset ad 4 ((j).toNat) qg) (gchs (gset S 33 0 0 1) ((j).toNat) (gNp S ((j).toNat)) (cbGr S ((j).toNat) v)) ((j).toNat)) (GP.J (ad := adset ad 4 ((j).toNat) qg) hP hj1) 8 (by decide) 8 rfl rfl (ty := .int) (by decide +kernel) rfl rfl (Nat.le_of_ble_eq_true rfl) dX1_callBus_249 (fun H locs hc_ hk hz_ ho_ hS => ?_)
      have hP : GP E (adset ad 4 ((j).toNat) qg) (cbS S ((j).toNat) v) H := GP.putJ hP hj1 8 rfl hc_ ho_
      refine g_iload X dX1_callBus_252 hl 0 rfl ?_
      exact vx_ret (g_iret X hS (⟨hz, rfl, adset ad 4 (j.toNat) qg, hP, rfl, adset_W hG_g⟩) ⟨Nat.le_of_ble_eq_true rfl, Nat.le_of_ble_eq_true rfl⟩ dX1_callBus_254)
    have join_162 : gHide (∀ (v8 : Int) (ls : Array Slot), v8 = 0 → (cbA S (j.toNat) v = false) → lv_has ls 9 [(8, .int (iI v8)), (7, .int (iI (cbP S (j.toNat)))), (6, .ref qg), (5, .int (iI (cbL S (j.toNat)))), (4, .int (iI (((low S (j.toNat) v) : Nat) : Int))), (3, .ref (ad 0 ((j).toNat))), (0, .ref (ad 6 0)), (1, .int (iI j)), (2, .int (iI v))] → W P_ l e_ (gR 9 6 26) s M_ ([.ref (ad 6 0), .int (iI j), .int (iI v)] : List Value).toArray bl mt_ c_ H locs ((((0 + 1) + 2) + 1) + 1) ((((0 + 1) + 12) + 6) + 4) (vx_MQ bl (gQi (gW (gN S) ad s.heap) (fun z H1 => erU S j v = 0 ∧ z = cbZ S (j.toNat) v ∧ ∃ ad1, GP E ad1 (cbS S (j.toNat) v) H1 ∧ adW (gN S) (gN S) ad s.heap ad1)) (gXD (xC (erU S j v) [nIx, nSt])) ([.ref (ad 6 0), .int (iI j), .int (iI v)] : List Value).toArray s 6 26 (gW (gN S) ad s.heap)) (F0 M_ 162 ls [])) := by
      intro v8 ls e_v8 hA0 hl
      subst e_v8
      have hl : lv_has ls 9 [(8, .int (iI 0)), (7, .int (iI (cbP S (j.toNat)))), (6, .ref qg), (5, .int (iI (cbL S (j.toNat)))), (4, .int (iI (((low S (j.toNat) v) : Nat) : Int))), (3, .ref (ad 0 ((j).toNat))), (0, .ref (ad 6 0)), (1, .int (iI j)), (2, .int (iI v))] := hl
      refine g_iload X dX1_callBus_162 hl 1 rfl ?_
      refine g_iconst X dX1_callBus_164 ?_
      refine g_icmp_eq X dX1_callBus_165 (tgt := 235) (by decide) (by omega) (fun c165 => ?_) (fun c165 => ?_)
      · refine W.widen (k := 6) (n := 26) (by omega) (by omega) ?_
        exact join_235.out 0 H locs _ (by first | rfl | (unfold cbZ; rw [if_neg (by rw [hA0]; decide), if_neg (by unfold cbB; rw [decide_eq_true_eq]; omega)])) hk hP hS (ce_I hG (fun i hi => by first | exact (cbGr_A hAb i).symm | exact (cbGr_B hA0 hBb i).symm | exact (cbGr_C hA0 (by unfold cbB; exact decide_eq_false (by omega)) i).symm)) (lv_sub hl [0, 2, 3, 4, 5, 6, 7, 8] rfl)
      · refine g_iload X dX1_callBus_168 hl 4 rfl ?_
        refine g_iload X dX1_callBus_170 hl 1 rfl ?_
        refine g_icmp_le X dX1_callBus_172 (tgt := 235) (by decide) (by omega) (fun c172 => ?_) (fun c172 => ?_)
        · refine W.widen (k := 6) (n := 26) (by omega) (by omega) ?_
          exact join_235.out 0 H locs _ (by first | rfl | (unfold cbZ; rw [if_neg (by rw [hA0]; decide), if_neg (by unfold cbB; rw [decide_eq_true_eq]; omega)])) hk hP hS (ce_I hG (fun i hi => by first | exact (cbGr_A hAb i).symm | exact (cbGr_B hA0 hBb i).symm | exact (cbGr_C hA0 (by unfold cbB; exact decide_eq_false (by omega)) i).symm)) (lv_sub hl [0, 2, 3, 4, 5, 6, 7, 8] rfl)
        · have hA0 : cbA S (j.toNat) v = false := by unfold cbA; exact decide_eq_false (by omega)
          have hBb : cbB S (j.toNat) v = true := by unfold cbB; exact decide_eq_true (by omega)
          have ev7 : (cbP S (j.toNat)) = ((((cbP S (j.toNat))).toNat : Nat) : Int) := by omega
          rw [ev7] at hl
          have hl : lv_has ls 9 [(8, .int (iI 0)), (7, .int (iI ((((cbP S (j.toNat))).toNat : Nat) : Int))), (6, .ref qg), (5, .int (iI (cbL S (j.toNat)))), (4, .int (iI (((low S (j.toNat) v) : Nat) : Int))), (3, .ref (ad 0 ((j).toNat))), (0, .ref (ad 6 0)), (1, .int (iI j)), (2, .int (iI v))] := hl
          have hZB : cbZ S (j.toNat) v = min (min 5 (begK (grn S (j.toNat)) (clr S (j.toNat)) ((cbP S (j.toNat))).toNat + grn S (j.toNat) ((cbP S (j.toNat))).toNat - cbL S (j.toNat) - 1)) (grn S (j.toNat) ((cbP S (j.toNat))).toNat - lst S (j.toNat) ((cbP S (j.toNat))).toNat) := by unfold cbZ; rw [if_neg (by rw [hA0]; decide), if_pos hBb]
          have hGB : cbG S (j.toNat) v = ((cbP S (j.toNat))).toNat := by unfold cbG; rw [if_neg (by rw [hA0]; decide), if_pos hBb]
          have hb1 := hgb ((cbP S (j.toNat))).toNat (by omega)
          have hb2 := lst_b S (j.toNat) ((cbP S (j.toNat))).toNat
          have hgc : ∀ i, i < gNp S (j.toNat) → 0 ≤ grn S (j.toNat) i ∧ 0 ≤ clr S (j.toNat) i := fun i hi => ⟨(hg i hi).1, (clr_b (hI.2.2 (j.toNat) hj1) i).1⟩
          have hbeg := begK_b hgc ((cbP S (j.toNat))).toNat (by omega)
          have hend := begK_grn hI hj1 hLj
          have hmon := begK_mono hgc ((cbP S (j.toNat))).toNat (gNp S (j.toNat) - ((cbP S (j.toNat))).toNat) (by omega)
          rw [show ((cbP S (j.toNat))).toNat + (gNp S (j.toNat) - ((cbP S (j.toNat))).toNat) = gNp S (j.toNat) by omega, hend] at hmon
          refine g_iconst X dX1_callBus_175 ?_
          have hs0_ := hS.1
          refine g_newI X hk hS (N := 3) (by first | rfl | omega) (by omega) ⟨Nat.le_of_ble_eq_true rfl, Nat.le_of_ble_eq_true rfl⟩ dX1_callBus_176 (fun qe H hq_ hc_ hk hz_ ho_ hS => ?_)
          have hE : ce E qe (aI E 3 (fun _ => 0)) H := hc_
          have hE_g : s.heap.size ≤ qe := by omega
          have lt_hG_hE : qg < qe := by have := hG.lt; omega
          have lk_ := lk_new (s0 := s.heap.size) ho_
          have hP := GP.new hP ho_
          have hG := hG.kept (lk_ _ hG_g hG.lt)
          refine g_dup X dX1_callBus_178 rfl ?_
          refine g_iconst X dX1_callBus_179 ?_
          refine g_iconst X dX1_callBus_180 ?_
          refine g_iast X hk hS ⟨Or.inr hE_g, Nat.le_trans hN0 hE_g⟩ (j := 0) (n := 3) (f := (fun _ => 0)) hE (rfl) (by omega) dX1_callBus_181 (fun H locs hc_ hk hz_ ho_ hS => ?_)
          have hP := GP.loc hP hA0_ hE_g ho_
          have hE : ce E qe (aI E 3 (uI (fun _ => 0) 0 5)) H := hc_
          have hG := hG.kept (ho_ _ (Nat.ne_of_lt lt_hG_hE))
          refine g_dup X dX1_callBus_182 rfl ?_
          refine g_iconst X dX1_callBus_183 ?_
          refine g_aload_n X dX1_callBus_184 rfl hl 5 rfl ?_
          refine g_iload X dX1_callBus_185 hl 1 rfl ?_
          refine g_iload X dX1_callBus_187 hl 3 rfl ?_
          refine g_aload X dX1_callBus_189 hl 2 rfl ?_
          refine g_pV X hk (As := [.int (iI ((((cbP S (j.toNat))).toNat : Nat) : Int)), .int (iI (cbL S (j.toNat))), .ref qg]) (rest := [.int (iI 1), .ref qe, .ref qe]) rfl (GP.J hP hj1) (p_behind l E ad (gset S 33 0 0 1) H hP hI1 ((j).toNat) hj1 (((cbP S (j.toNat))).toNat) (by omega) (cbL S (j.toNat)) qg (grn S (j.toNat)) hG hg) 3 (lw_V q561 q562 q563 q47 q564) (by decide +kernel) ⟨⟨Nat.le_of_ble_eq_true rfl, Nat.le_of_ble_eq_true rfl⟩, Nat.le_of_ble_eq_true rfl, Nat.le_of_ble_eq_true rfl⟩ rfl rfl hl.1 (Nat.le_of_ble_eq_true rfl) dX1_callBus_191 ?_
          rw [show clr (gset S 33 0 0 1) (j.toNat) = clr S (j.toNat) from ecl]
          refine g_iast X hk hS ⟨Or.inr hE_g, Nat.le_trans hN0 hE_g⟩ (j := 1) (n := 3) (f := (uI (fun _ => 0) 0 5)) hE (rfl) (by omega) dX1_callBus_194 (fun H locs hc_ hk hz_ ho_ hS => ?_)
          have hP := GP.loc hP hA0_ hE_g ho_
          have hE : ce E qe (aI E 3 (uI (uI (fun _ => 0) 0 5) 1 (begK (grn S (j.toNat)) (clr S (j.toNat)) ((cbP S (j.toNat))).toNat + grn S (j.toNat) ((cbP S (j.toNat))).toNat - cbL S (j.toNat) - 1))) H := hc_
          have hG := hG.kept (ho_ _ (Nat.ne_of_lt lt_hG_hE))
          refine g_dup X dX1_callBus_195 rfl ?_
          refine g_iconst X dX1_callBus_196 ?_
          refine g_aload X dX1_callBus_197 hl 2 rfl ?_
          refine g_iload X dX1_callBus_199 hl 1 rfl ?_
          refine g_ialdv X hk (j := ((cbP S (j.toNat))).toNat) (n := (gNp S (j.toNat))) (f := (grn S (j.toNat))) (v := ((grn S (j.toNat)) (((cbP S (j.toNat))).toNat))) hG (by omega) (by omega) (rfl) dX1_callBus_201 ?_
          refine g_aload_n X dX1_callBus_202 rfl hl 5 rfl ?_
          refine g_iload X dX1_callBus_203 hl 1 rfl ?_
          refine g_pV X hk (As := [.int (iI ((((cbP S (j.toNat))).toNat : Nat) : Int))]) (rest := [.int (iI ((grn S (j.toNat)) (((cbP S (j.toNat))).toNat))), .int (iI 2), .ref qe, .ref qe]) rfl (GP.J hP hj1) (p_leastGreen l E ad (gset S 33 0 0 1) H hP hI1 ((j).toNat) hj1 (((cbP S (j.toNat))).toNat) (by omega)) 1 (lw_V q557 q401 q402 q47 q403) (by decide +kernel) ⟨⟨Nat.le_of_ble_eq_true rfl, Nat.le_of_ble_eq_true rfl⟩, Nat.le_of_ble_eq_true rfl, Nat.le_of_ble_eq_true rfl⟩ rfl rfl hl.1 (Nat.le_of_ble_eq_true rfl) dX1_callBus_205 ?_
          rw [show lst (gset S 33 0 0 1) (j.toNat) ((cbP S (j.toNat))).toNat = lst S (j.toNat) ((cbP S (j.toNat))).toNat from pl_lst hpl _]
          refine g_isub X dX1_callBus_208 ?_
          refine g_iast X hk hS ⟨Or.inr hE_g, Nat.le_trans hN0 hE_g⟩ (j := 2) (n := 3) (f := (uI (uI (fun _ => 0) 0 5) 1 (begK (grn S (j.toNat)) (clr S (j.toNat)) ((cbP S (j.toNat))).toNat + grn S (j.toNat) ((cbP S (j.toNat))).toNat - cbL S (j.toNat) - 1))) hE (rfl) (by omega) dX1_callBus_209 (fun H locs hc_ hk hz_ ho_ hS => ?_)
          have hP := GP.loc hP hA0_ hE_g ho_
          have hE : ce E qe (aI E 3 (uI (uI (uI (fun _ => 0) 0 5) 1 (begK (grn S (j.toNat)) (clr S (j.toNat)) ((cbP S (j.toNat))).toNat + grn S (j.toNat) ((cbP S (j.toNat))).toNat - cbL S (j.toNat) - 1)) 2 (((grn S (j.toNat)) (((cbP S (j.toNat))).toNat)) - (lst S (j.toNat) ((cbP S (j.toNat))).toNat)))) H := hc_
          have hE : ce E qe (aI E 3 (ls3 (begK (grn S (j.toNat)) (clr S (j.toNat)) ((cbP S (j.toNat))).toNat + grn S (j.toNat) ((cbP S (j.toNat))).toNat - cbL S (j.toNat) - 1) ((grn S (j.toNat) ((cbP S (j.toNat))).toNat) - (lst S (j.toNat) ((cbP S (j.toNat))).toNat)))) H := ce_I hE (fun i hi => by rcases (show i = 0 ∨ i = 1 ∨ i = 2 by omega) with rfl | rfl | rfl <;> rfl)
          have hG := hG.kept (ho_ _ (Nat.ne_of_lt lt_hG_hE))
          skip
          refine g_pS X hk (As := [.ref qe]) (rest := []) (p_least l E qe 3 (ls3 (begK (grn S (j.toNat)) (clr S (j.toNat)) ((cbP S (j.toNat))).toNat + grn S (j.toNat) ((cbP S (j.toNat))).toNat - cbL S (j.toNat) - 1) ((grn S (j.toNat) ((cbP S (j.toNat))).toNat) - (lst S (j.toNat) ((cbP S (j.toNat))).toNat))) H hE (by omega) (by intro i hi; unfold ls3; split <;> (try split) <;> omega)) 1 (lw_S q558 q559 q46 q560) (by decide +kernel) ⟨⟨Nat.le_of_ble_eq_true rfl, Nat.le_of_ble_eq_true rfl⟩, Nat.le_of_ble_eq_true rfl, Nat.le_of_ble_eq_true rfl⟩ rfl rfl hl.1 (Nat.le_of_ble_eq_true rfl) dX1_callBus_210 ?_
          rw [lsK3, ← hZB]
          skip
          refine g_istore (lv' := [(8, .int (iI (cbZ S (j.toNat) v))), (7, .int (iI ((((cbP S (j.toNat))).toNat : Nat) : Int))), (6, .ref qg), (5, .int (iI (cbL S (j.toNat)))), (4, .int (iI (((low S (j.toNat) v) : Nat) : Int))), (3, .ref (ad 0 ((j).toNat))), (0, .ref (ad 6 0)), (1, .int (iI j)), (2, .int (iI v))]) X dX1_callBus_213 hl (by decide) rfl (fun ls hl => ?_)
          refine g_aload X dX1_callBus_215 hl 2 rfl ?_
          refine g_iload X dX1_callBus_217 hl 1 rfl ?_
          refine g_dup2 X dX1_callBus_219 rfl rfl ?_
          refine g_ialdv X hk (j := ((cbP S (j.toNat))).toNat) (n := (gNp S (j.toNat))) (f := (grn S (j.toNat))) (v := ((grn S (j.toNat)) (((cbP S (j.toNat))).toNat))) hG (by omega) (by omega) (rfl) dX1_callBus_220 ?_
          refine g_iload X dX1_callBus_221 hl 0 rfl ?_
          refine g_isub X dX1_callBus_223 ?_
          refine g_iast X hk hS ⟨Or.inr hG_g, Nat.le_trans hN0 hG_g⟩ (j := ((cbP S (j.toNat))).toNat) (n := (gNp S (j.toNat))) (f := (grn S (j.toNat))) hG (by omega) (by omega) dX1_callBus_224 (fun H locs hc_ hk hz_ ho_ hS => ?_)
          have hP := GP.loc hP hA0_ hG_g ho_
          have hG : ce E qg (aI E (gNp S (j.toNat)) (uI (grn S (j.toNat)) (((cbP S (j.toNat))).toNat) (((grn S (j.toNat)) (((cbP S (j.toNat))).toNat)) - (cbZ S (j.toNat) v)))) H := hc_
          refine g_aload X dX1_callBus_225 hl 2 rfl ?_
          refine g_iload X dX1_callBus_227 hl 4 rfl ?_
          refine g_dup2 X dX1_callBus_229 rfl rfl ?_
          refine g_ialdv X hk (j := (low S (j.toNat) v)) (n := (gNp S (j.toNat))) (f := (uI (grn S (j.toNat)) (((cbP S (j.toNat))).toNat) (((grn S (j.toNat)) (((cbP S (j.toNat))).toNat)) - (cbZ S (j.toNat) v)))) (v := ((uI (grn S (j.toNat)) (((cbP S (j.toNat))).toNat) (((grn S (j.toNat)) (((cbP S (j.toNat))).toNat)) - (cbZ S (j.toNat) v))) (low S (j.toNat) v))) hG (by omega) (by omega) (rfl) dX1_callBus_230 ?_
          refine g_iload X dX1_callBus_231 hl 0 rfl ?_
          refine g_iadd X dX1_callBus_233 ?_
          refine g_iast X hk hS ⟨Or.inr hG_g, Nat.le_trans hN0 hG_g⟩ (j := (low S (j.toNat) v)) (n := (gNp S (j.toNat))) (f := (uI (grn S (j.toNat)) (((cbP S (j.toNat))).toNat) (((grn S (j.toNat)) (((cbP S (j.toNat))).toNat)) - (cbZ S (j.toNat) v)))) hG (by omega) (by omega) dX1_callBus_234 (fun H locs hc_ hk hz_ ho_ hS => ?_)
          have hP := GP.loc hP hA0_ hG_g ho_
          have hG : ce E qg (aI E (gNp S (j.toNat)) (uI (uI (grn S (j.toNat)) (((cbP S (j.toNat))).toNat) (((grn S (j.toNat)) (((cbP S (j.toNat))).toNat)) - (cbZ S (j.toNat) v))) (low S (j.toNat) v) (((uI (grn S (j.toNat)) (((cbP S (j.toNat))).toNat) (((grn S (j.toNat)) (((cbP S (j.toNat))).toNat)) - (cbZ S (j.toNat) v))) (low S (j.toNat) v)) + (cbZ S (j.toNat) v)))) H := hc_
          refine W.widen (k := 6) (n := 26) (by omega) (by omega) ?_
          exact join_235.out (cbZ S (j.toNat) v) H locs _ (by first | rfl | (unfold cbZ; rw [if_neg (by rw [hA0]; decide), if_neg (by unfold cbB; rw [decide_eq_true_eq]; omega)])) hk hP hS (ce_I hG (fun i hi => by first | exact (cbGr_A hAb i).symm | exact (cbGr_B hA0 hBb i).symm | exact (cbGr_C hA0 (by unfold cbB; exact decide_eq_false (by omega)) i).symm)) (lv_sub hl [0, 2, 3, 4, 5, 6, 7, 8] rfl)
    refine g_istore (lv' := [(8, .int (iI 0)), (7, .int (iI (cbP S (j.toNat)))), (6, .ref qg), (5, .int (iI (cbL S (j.toNat)))), (4, .int (iI (((low S (j.toNat) v) : Nat) : Int))), (3, .ref (ad 0 ((j).toNat))), (0, .ref (ad 6 0)), (1, .int (iI j)), (2, .int (iI v))]) X dX1_callBus_85 hl (by decide) rfl (fun ls hl => ?_)
    refine g_iload X dX1_callBus_87 hl 1 rfl ?_
    refine g_iload X dX1_callBus_89 hl 4 rfl ?_
    refine g_icmp_ne X dX1_callBus_91 (tgt := 162) (by decide) (by omega) (fun c91 => ?_) (fun c91 => ?_)
    · exact join_162.out 0 _ (rfl) (by unfold cbA; exact decide_eq_false (by omega)) (lv_sub hl [0, 1, 2, 3, 4, 5, 6, 7, 8] rfl)
    · refine g_iload X dX1_callBus_94 hl 4 rfl ?_
      refine g_aload_n X dX1_callBus_96 rfl hl 5 rfl ?_
      refine g_getN X hk (v := .ref (ad 3 ((j).toNat))) (host := "Greenwave") in_X2 rfl (GP.J hP hj1) 3 (by decide) 3 rfl (rfl) dX1_callBus_97 ?_
      refine g_alenI X hk (n := (gNp S ((j).toNat))) (GP.P (S := (gset S 33 0 0 1)) hP hj1) dX1_callBus_100 ?_
      refine g_iconst X dX1_callBus_101 ?_
      refine g_isub X dX1_callBus_102 ?_
      refine g_icmp_ge X dX1_callBus_103 (tgt := 162) (by decide) (by omega) (fun c103 => ?_) (fun c103 => ?_)
      · exact join_162.out 0 _ (rfl) (by unfold cbA; exact decide_eq_false (by omega)) (lv_sub hl [0, 1, 2, 3, 4, 5, 6, 7, 8] rfl)
      · have hAb : cbA S (j.toNat) v = true := by unfold cbA; exact decide_eq_true (by omega)
        have hZA : cbZ S (j.toNat) v = min 5 (grn S (j.toNat) ((low S (j.toNat) v) + 1) - lst S (j.toNat) ((low S (j.toNat) v) + 1)) := by unfold cbZ; rw [if_pos hAb]
        have hGA : cbG S (j.toNat) v = (low S (j.toNat) v) + 1 := by unfold cbG; rw [if_pos hAb]
        have hb1 := hgb ((low S (j.toNat) v) + 1) (by omega)
        have hb2 := lst_b S (j.toNat) ((low S (j.toNat) v) + 1)
        refine g_iconst X dX1_callBus_106 ?_
        have hs0_ := hS.1
        refine g_newI X hk hS (N := 2) (by first | rfl | omega) (by omega) ⟨Nat.le_of_ble_eq_true rfl, Nat.le_of_ble_eq_true rfl⟩ dX1_callBus_107 (fun qe H hq_ hc_ hk hz_ ho_ hS => ?_)
        have hE : ce E qe (aI E 2 (fun _ => 0)) H := hc_
        have hE_g : s.heap.size ≤ qe := by omega
        have lt_hG_hE : qg < qe := by have := hG.lt; omega
        have lk_ := lk_new (s0 := s.heap.size) ho_
        have hP := GP.new hP ho_
        have hG := hG.kept (lk_ _ hG_g hG.lt)
        refine g_dup X dX1_callBus_109 rfl ?_
        refine g_iconst X dX1_callBus_110 ?_
        refine g_iconst X dX1_callBus_111 ?_
        refine g_iast X hk hS ⟨Or.inr hE_g, Nat.le_trans hN0 hE_g⟩ (j := 0) (n := 2) (f := (fun _ => 0)) hE (rfl) (by omega) dX1_callBus_112 (fun H locs hc_ hk hz_ ho_ hS => ?_)
        have hP := GP.loc hP hA0_ hE_g ho_
        have hE : ce E qe (aI E 2 (uI (fun _ => 0) 0 5)) H := hc_
        have hG := hG.kept (ho_ _ (Nat.ne_of_lt lt_hG_hE))
        refine g_dup X dX1_callBus_113 rfl ?_
        refine g_iconst X dX1_callBus_114 ?_
        refine g_aload X dX1_callBus_115 hl 2 rfl ?_
        refine g_iload X dX1_callBus_117 hl 4 rfl ?_
        refine g_iconst X dX1_callBus_119 ?_
        refine g_iadd X dX1_callBus_120 ?_
        refine g_ialdv X hk (j := ((low S (j.toNat) v) + 1)) (n := (gNp S (j.toNat))) (f := (grn S (j.toNat))) (v := ((grn S (j.toNat)) ((low S (j.toNat) v) + 1))) hG (by omega) (by omega) (rfl) dX1_callBus_121 ?_
        refine g_aload_n X dX1_callBus_122 rfl hl 5 rfl ?_
        refine g_iload X dX1_callBus_123 hl 4 rfl ?_
        refine g_iconst X dX1_callBus_125 ?_
        refine g_iadd X dX1_callBus_126 ?_
        refine g_pV X hk (As := [.int (iI ((((low S (j.toNat) v) : Nat) : Int) + 1))]) (rest := [.int (iI ((grn S (j.toNat)) ((low S (j.toNat) v) + 1))), .int (iI 1), .ref qe, .ref qe]) rfl (GP.J hP hj1) (p_leastGreen l E ad (gset S 33 0 0 1) H hP hI1 ((j).toNat) hj1 ((low S (j.toNat) v) + 1) (by omega)) 1 (lw_V q557 q401 q402 q47 q403) (by decide +kernel) ⟨⟨Nat.le_of_ble_eq_true rfl, Nat.le_of_ble_eq_true rfl⟩, Nat.le_of_ble_eq_true rfl, Nat.le_of_ble_eq_true rfl⟩ rfl rfl hl.1 (Nat.le_of_ble_eq_true rfl) dX1_callBus_127 ?_
        rw [show lst (gset S 33 0 0 1) (j.toNat) ((low S (j.toNat) v) + 1) = lst S (j.toNat) ((low S (j.toNat) v) + 1) from pl_lst hpl _]
        refine g_isub X dX1_callBus_130 ?_
        refine g_iast X hk hS ⟨Or.inr hE_g, Nat.le_trans hN0 hE_g⟩ (j := 1) (n := 2) (f := (uI (fun _ => 0) 0 5)) hE (rfl) (by omega) dX1_callBus_131 (fun H locs hc_ hk hz_ ho_ hS => ?_)
        have hP := GP.loc hP hA0_ hE_g ho_
        have hE : ce E qe (aI E 2 (uI (uI (fun _ => 0) 0 5) 1 (((grn S (j.toNat)) ((low S (j.toNat) v) + 1)) - (lst S (j.toNat) ((low S (j.toNat) v) + 1))))) H := hc_
        have hE : ce E qe (aI E 2 (ls2 ((grn S (j.toNat) ((low S (j.toNat) v) + 1)) - (lst S (j.toNat) ((low S (j.toNat) v) + 1))))) H := ce_I hE (fun i hi => by rcases (show i = 0 ∨ i = 1 by omega) with rfl | rfl <;> rfl)
        have hG := hG.kept (ho_ _ (Nat.ne_of_lt lt_hG_hE))
        skip
        refine g_pS X hk (As := [.ref qe]) (rest := []) (p_least l E qe 2 (ls2 ((grn S (j.toNat) ((low S (j.toNat) v) + 1)) - (lst S (j.toNat) ((low S (j.toNat) v) + 1)))) H hE (by omega) (by intro i hi; unfold ls2; split <;> omega)) 1 (lw_S q558 q559 q46 q560) (by decide +kernel) ⟨⟨Nat.le_of_ble_eq_true rfl, Nat.le_of_ble_eq_true rfl⟩, Nat.le_of_ble_eq_true rfl, Nat.le_of_ble_eq_true rfl⟩ rfl rfl hl.1 (Nat.le_of_ble_eq_true rfl) dX1_callBus_132 ?_
        rw [lsK2, ← hZA]
        skip
        refine g_istore (lv' := [(8, .int (iI (cbZ S (j.toNat) v))), (7, .int (iI (cbP S (j.toNat)))), (6, .ref qg), (5, .int (iI (cbL S (j.toNat)))), (4, .int (iI (((low S (j.toNat) v) : Nat) : Int))), (3, .ref (ad 0 ((j).toNat))), (0, .ref (ad 6 0)), (1, .int (iI j)), (2, .int (iI v))]) X dX1_callBus_135 hl (by decide) rfl (fun ls hl => ?_)
        refine g_aload X dX1_callBus_137 hl 2 rfl ?_
        refine g_iload X dX1_callBus_139 hl 4 rfl ?_
        refine g_dup2 X dX1_callBus_141 rfl rfl ?_
        refine g_ialdv X hk (j := (low S (j.toNat) v)) (n := (gNp S (j.toNat))) (f := (grn S (j.toNat))) (v := ((grn S (j.toNat)) (low S (j.toNat) v))) hG (by omega) (by omega) (rfl) dX1_callBus_142 ?_
        refine g_iload X dX1_callBus_143 hl 0 rfl ?_
        refine g_iadd X dX1_callBus_145 ?_
        refine g_iast X hk hS ⟨Or.inr hG_g, Nat.le_trans hN0 hG_g⟩ (j := (low S (j.toNat) v)) (n := (gNp S (j.toNat))) (f := (grn S (j.toNat))) hG (by omega) (by omega) dX1_callBus_146 (fun H locs hc_ hk hz_ ho_ hS => ?_)
        have hP := GP.loc hP hA0_ hG_g ho_
        have hG : ce E qg (aI E (gNp S (j.toNat)) (uI (grn S (j.toNat)) (low S (j.toNat) v) (((grn S (j.toNat)) (low S (j.toNat) v)) + (cbZ S (j.toNat) v)))) H := hc_
        refine g_aload X dX1_callBus_147 hl 2 rfl ?_
        refine g_iload X dX1_callBus_149 hl 4 rfl ?_
        refine g_iconst X dX1_callBus_151 ?_
        refine g_iadd X dX1_callBus_152 ?_
        refine g_dup2 X dX1_callBus_153 rfl rfl ?_
        refine g_ialdv X hk (j := ((low S (j.toNat) v) + 1)) (n := (gNp S (j.toNat))) (f := (uI (grn S (j.toNat)) (low S (j.toNat) v) (((grn S (j.toNat)) (low S (j.toNat) v)) + (cbZ S (j.toNat) v)))) (v := ((uI (grn S (j.toNat)) (low S (j.toNat) v) (((grn S (j.toNat)) (low S (j.toNat) v)) + (cbZ S (j.toNat) v))) ((low S (j.toNat) v) + 1))) hG (by omega) (by omega) (rfl) dX1_callBus_154 ?_
        refine g_iload X dX1_callBus_155 hl 0 rfl ?_
        refine g_isub X dX1_callBus_157 ?_
        refine g_iast X hk hS ⟨Or.inr hG_g, Nat.le_trans hN0 hG_g⟩ (j := ((low S (j.toNat) v) + 1)) (n := (gNp S (j.toNat))) (f := (uI (grn S (j.toNat)) (low S (j.toNat) v) (((grn S (j.toNat)) (low S (j.toNat) v)) + (cbZ S (j.toNat) v)))) hG (by omega) (by omega) dX1_callBus_158 (fun H locs hc_ hk hz_ ho_ hS => ?_)
        have hP := GP.loc hP hA0_ hG_g ho_
        have hG : ce E qg (aI E (gNp S (j.toNat)) (uI (uI (grn S (j.toNat)) (low S (j.toNat) v) (((grn S (j.toNat)) (low S (j.toNat) v)) + (cbZ S (j.toNat) v))) ((low S (j.toNat) v) + 1) (((uI (grn S (j.toNat)) (low S (j.toNat) v) (((grn S (j.toNat)) (low S (j.toNat) v)) + (cbZ S (j.toNat) v))) ((low S (j.toNat) v) + 1)) - (cbZ S (j.toNat) v)))) H := hc_
        refine g_goto X dX1_callBus_159 (tgt := 235) (by decide) ?_
        refine W.widen (k := 6) (n := 26) (by omega) (by omega) ?_
        exact join_235.out (cbZ S (j.toNat) v) H locs _ (by first | rfl | (unfold cbZ; rw [if_neg (by rw [hA0]; decide), if_neg (by unfold cbB; rw [decide_eq_true_eq]; omega)])) hk hP hS (ce_I hG (fun i hi => by first | exact (cbGr_A hAb i).symm | exact (cbGr_B hA0 hBb i).symm | exact (cbGr_C hA0 (by unfold cbB; exact decide_eq_false (by omega)) i).symm)) (lv_sub hl [0, 2, 3, 4, 5, 6, 7, 8] rfl)
  refine g_aload_n X dX1_callBus_17 rfl hl 0 rfl ?_
  refine g_iload_n X dX1_callBus_18 rfl hl 3 rfl ?_
  refine g_pS X hk (As := [.ref (ad 0 ((j).toNat)), .int (iI v)]) (rest := []) (p_lowestWith l E ad S H hP hI ((j).toNat) hj1 v) 2 (lw_S q553 q554 q46 q555) (by decide +kernel) ⟨⟨Nat.le_of_ble_eq_true rfl, Nat.le_of_ble_eq_true rfl⟩, Nat.le_of_ble_eq_true rfl, Nat.le_of_ble_eq_true rfl⟩ rfl rfl hl.1 (Nat.le_of_ble_eq_true rfl) dX1_callBus_19 ?_
  have hlw := lowK_le S (j.toNat) v (gNp S (j.toNat)) 0
  have hlw : (low S (j.toNat) v) ≤ gNp S (j.toNat) := by unfold low; omega
  refine g_istore (lv' := [(4, .int (iI (((low S ((j).toNat) v) : Nat) : Int))), (3, .ref (ad 0 ((j).toNat))), (0, .ref (ad 6 0)), (1, .int (iI j)), (2, .int (iI v))]) X dX1_callBus_22 hl (by decide) rfl (fun ls hl => ?_)
  refine g_iload X dX1_callBus_24 hl 0 rfl ?_
  refine g_aload_n X dX1_callBus_26 rfl hl 1 rfl ?_
  refine g_getN X hk (v := .ref (ad 3 ((j).toNat))) (host := "Greenwave") in_X2 rfl (GP.J hP hj1) 3 (by decide) 3 rfl (rfl) dX1_callBus_27 ?_
  refine g_alenI X hk (n := (gNp S ((j).toNat))) (GP.P hP hj1) dX1_callBus_30 ?_
  refine g_icmp_ge X dX1_callBus_31 (tgt := 49) (by decide) (by omega) (fun c31 => ?_) (fun c31 => ?_)
  · refine g_iconst X dX1_callBus_49 ?_
    exact join_50.out 0 (((low S ((j).toNat) v) : Nat) : Int) _ (by grind [bZ]) (rfl) (lv_sub hl [0, 1, 2, 3, 4] rfl)
  · refine g_aload_n X dX1_callBus_34 rfl hl 1 rfl ?_
    refine g_aload_n X dX1_callBus_35 rfl hl 2 rfl ?_
    refine g_get X hk (v := .int (iI (gNow S))) in_X1 rfl (GP.X hP) 2 (by decide) q144 (rfl) dX1_callBus_36 ?_
    refine g_pV X hk (As := [.int (iI (gNow S))]) (rest := []) rfl (GP.J hP hj1) (p_isChanged l E ad S H hP hI ((j).toNat) hj1 (gNow S) (by omega)) 1 (lw_V q556 q535 q536 q47 q537) (by decide +kernel) ⟨⟨Nat.le_of_ble_eq_true rfl, Nat.le_of_ble_eq_true rfl⟩, Nat.le_of_ble_eq_true rfl, Nat.le_of_ble_eq_true rfl⟩ rfl rfl hl.1 (Nat.le_of_ble_eq_true rfl) dX1_callBus_39 ?_
    have hz42 := bZ_le (chg S (j.toNat) (gNow S))
    refine g_if_ne X dX1_callBus_42 (tgt := 49) (by decide) (by omega) (fun c42 => ?_) (fun c42 => ?_)
    · refine g_iconst X dX1_callBus_49 ?_
      exact join_50.out 0 (((low S ((j).toNat) v) : Nat) : Int) _ (by grind [bZ]) (rfl) (lv_sub hl [0, 1, 2, 3, 4] rfl)
    · refine g_iconst X dX1_callBus_45 ?_
      refine g_goto X dX1_callBus_46 (tgt := 50) (by decide) ?_
      exact join_50.out 1 (((low S ((j).toNat) v) : Nat) : Int) _ (by grind [bZ]) (rfl) (lv_sub hl [0, 1, 2, 3, 4] rfl)
