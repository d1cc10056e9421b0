/-! the reference: offsets sought -/
/-- the offsets alone may differ -/
def m8 (M M1 : MS) : Prop := ∀ f i, f ≠ 8 → M1 f i = M f i
theorem m8.rf (M : MS) : m8 M M := fun _ _ _ => rfl
theorem m8.trans {M M1 M2 : MS} (h : m8 M M1) (h2 : m8 M1 M2) : m8 M M2 := fun f i a => (h2 f i a).trans (h f i a)
theorem m8.C {M M1 : MS} (h : m8 M M1) : mC M M1 := fun f i hf => h f i (by omega)
theorem m8.mI {M M1 : MS} (h : m8 M M1) (hI : mI M) : mI M1 := hI.of fun f i hf => h f i (by omega)
theorem m8.set (M : MS) {i : Nat} {z : Int} : m8 M (mset M 8 i z) := fun f' i' h => mset_n _ _ (fun e => h e.1)
theorem m8.pl {S S1 : GS} {M M1 : MS} (h : m8 M M1) (o : offE S S1) (hPl : ∀ j, j < gN S → mPl S M j) : ∀ j, j < gN S1 → mPl S1 M1 j := by
  intro j hj p hp
  rw [o.n] at hj
  rw [o.np] at hp
  rw [off_grn o, off_clr o, h 11 _ (by omega), h 12 _ (by omega)]
  exact hPl j hj p hp
theorem offE.hL {S S1 : GS} (o : offE S S1) (hL : ∀ j, j < gN S → 0 ≤ lft S j) : ∀ j, j < gN S1 → 0 ≤ lft S1 j := by
  intro j hj
  rw [off_lft o]
  exact hL j (by rw [o.n] at hj; exact hj)
theorem gset_o {S S1 : GS} {j : Nat} (h : ∀ z, gset S1 14 j 0 z = gset S 14 j 0 z) (y : Int) : ∀ z, gset (gset S 14 j 0 y) 14 j 0 z = gset S 14 j 0 z := fun z => gset_gset 14 j 0 y z
set_option maxHeartbeats 4000000 in
theorem m_betters (l : Launch) (E : EP) (am : Nat → Nat) (S : GS) (M : MS) (H : Heap) (hM : MP E am M H) (hI : gI S) (hR : MR S M) (j : Nat) (hj : j < gN S) (hMI : mI M) (hL : ∀ j, j < gN S → 0 ≤ lft S j) (hPl : ∀ j, j < gN S → mPl S M j) : gMi l E yX3_betters cX3_betters 7 .boolean 7 0 0 H [.ref (am 0), .int (iI ((j : Nat) : Int))] (mW am) (fun z H1 => z = bZ (decide (¬ btB S j (gCyc S).toNat = gOff S j)) ∧ ∃ M1, MP E am M1 H1 ∧ MR (btS S j) M1 ∧ m8 M M1) := by
  refine g_met (plainFor_of_name (by decide)) (Nat.le_of_ble_eq_true rfl) (fun P_ e_ s M_ bl mt_ c_ ls X hmeth_ hk hh hl => ?_)
  subst hh
  have X : gX P_ s M_ mt_ c_ cX3_betters 7 ([.ref (am 0), .int (iI ((j : Nat) : Int))] : List Value).toArray RX3 (some .boolean) := X
  have hl : lv_has ls 7 [(0, .ref (am 0)), (1, .int (iI ((j : Nat) : Int)))] := hl
  have hS : va_S (mW am) s.heap s.heap [] := va_S.rf
  have hn5 := hI.1.1
  have hnp := (hI.2.2 j hj).1
  have hc := hI.2.1
  have hoj := (hI.2.2 j hj).2.2.2.2.1
  have hbt := btB_c hc.1 j
  refine g_aload_n X dX3_betters_0 rfl hl 0 rfl ?_
  refine g_get X hk (v := .ref (am 8)) in_X3 rfl (MP.O hM) 8 (by decide) q609 (rfl) dX3_betters_1 ?_
  refine g_iload_n X dX3_betters_4 rfl hl 1 rfl ?_
  refine g_ialdv X hk (j := j) (n := 5) (f := (M 8)) (v := (gOff S j)) (MP.I hM 8 rfl) (rfl) (by omega) (MR.off hR hj) dX3_betters_5 ?_
  refine g_istore_n (lv' := [(2, .int (iI (gOff S j))), (0, .ref (am 0)), (1, .int (iI ((j : Nat) : Int)))]) X dX3_betters_6 rfl hl (by decide) rfl (fun ls hl => ?_)
  refine g_iconst X dX3_betters_7 ?_
  refine g_istore_n (lv' := [(3, .int (iI (-1))), (2, .int (iI (gOff S j))), (0, .ref (am 0)), (1, .int (iI ((j : Nat) : Int)))]) X dX3_betters_8 rfl hl (by decide) rfl (fun ls hl => ?_)
  refine g_iconst X dX3_betters_9 ?_
  refine g_istore (lv' := [(4, .int (iI 0)), (3, .int (iI (-1))), (2, .int (iI (gOff S j))), (0, .ref (am 0)), (1, .int (iI ((j : Nat) : Int)))]) X dX3_betters_10 hl (by decide) rfl (fun ls hl => ?_)
  refine g_iconst X dX3_betters_12 ?_
  refine g_istore (lv' := [(5, .int (iI 0)), (4, .int (iI 0)), (3, .int (iI (-1))), (2, .int (iI (gOff S j))), (0, .ref (am 0)), (1, .int (iI ((j : Nat) : Int)))]) X dX3_betters_13 hl (by decide) rfl (fun ls hl => ?_)
  have loop_15 : gHide (∀ (n_ : Nat) (k : Nat) (Ma : MS) (Sa : GS) (v5 : Int) (v3 : Int) (v4 : Int) (H : Heap) (locs : List Loc), (gCyc S).toNat + 1 ≤ k + n_ → v5 = ((k : Nat) : Int) → v3 = (btM S j k) → v4 = (btB S j k) → (k ≤ (gCyc S).toNat) → (offE S Sa) → (∀ z, gset Sa 14 j 0 z = gset S 14 j 0 z) → (m8 M Ma) → (MR Sa Ma) → (mI Ma) → (kk E s H) → (va_S (mW am) s.heap H locs) → (MP E am Ma H) → ∀ (ls : Array Slot), lv_has ls 7 [(5, .int (iI v5)), (3, .int (iI v3)), (4, .int (iI v4)), (2, .int (iI (gOff S j))), (0, .ref (am 0)), (1, .int (iI ((j : Nat) : Int)))] → W P_ l e_ (gR 7 0 0) s M_ ([.ref (am 0), .int (iI ((j : Nat) : Int))] : List Value).toArray bl mt_ c_ H locs 0 0 (MQ bl (gQi (mW am) (fun z H1 => z = bZ (decide (¬ btB S j (gCyc S).toNat = gOff S j)) ∧ ∃ M1, MP E am M1 H1 ∧ MR (btS S j) M1 ∧ m8 M M1)) ([.ref (am 0), .int (iI ((j : Nat) : Int))] : List Value).toArray s 0 0 (mW am)) (F0 M_ 15 ls [])) := by
    intro n_
    induction n_ with
    | zero => intro k Ma Sa v5 v3 v4 H locs hb_ e_v5 e_v3 e_v4 hkb o8 hsm q8 hR hMI hk hS hM ls hl; exact absurd hb_ (by omega)
    | succ n_ ih_15 =>
      replace ih_15 := gHide.mk ih_15
      intro k Ma Sa v5 v3 v4 H locs hb_ e_v5 e_v3 e_v4 hkb o8 hsm q8 hR hMI hk hS hM ls hl
      subst e_v5
      subst e_v3
      subst e_v4
      have hl : lv_has ls 7 [(5, .int (iI ((k : Nat) : Int))), (3, .int (iI (btM S j k))), (4, .int (iI (btB S j k))), (2, .int (iI (gOff S j))), (0, .ref (am 0)), (1, .int (iI ((j : Nat) : Int)))] := hl
      have hcy := o8.cyc
      have hny := o8.n
      have hIa := o8.gI hI
      have hbm := btM_b hI j k hkb
      have hbb := btB_b S j k
      refine g_iload X dX3_betters_15 hl 0 rfl ?_
      refine g_aload_n X dX3_betters_17 rfl hl 4 rfl ?_
      refine g_get X hk (v := .int (iI (gCyc Sa))) in_X3 rfl (MP.O hM) 2 (by decide) q603 (sI (MR.cyc hR)) dX3_betters_18 ?_
      refine g_icmp_ge X dX3_betters_21 (tgt := 72) (by decide) (by omega) (fun c21 => ?_) (fun c21 => ?_)
      · refine g_aload_n X dX3_betters_72 rfl hl 4 rfl ?_
        refine g_get X hk (v := .ref (am 8)) in_X3 rfl (MP.O hM) 8 (by decide) q609 (rfl) dX3_betters_73 ?_
        refine g_iload_n X dX3_betters_76 rfl hl 5 rfl ?_
        refine g_iload X dX3_betters_77 hl 2 rfl ?_
        refine g_iast X hk hS (MP.A0 hM (Or.inr rfl)) (j := j) (n := 5) (f := (Ma 8)) (MP.I hM 8 rfl) (rfl) (by omega) dX3_betters_79 (fun H locs hc_ hk hz_ ho_ hS => ?_)
        obtain ⟨M45, eM45⟩ : ∃ M_ : MS, M_ = mset Ma 8 j (btB S j k) := ⟨_, rfl⟩
        have hM : MP E am M45 H := by rw [eM45]; exact MP.ast hM 8 rfl hc_ ho_
        have gM45 : ∀ f i, M45 f i = if f = 8 ∧ i = j then (btB S j k) else Ma f i := by intro f i; rw [eM45]; rfl
        have hR : MR (gset Sa 14 j 0 (btB S j k)) M45 := by rw [eM45]; exact MR_off hR (by omega)
        have q8 : m8 M M45 := by rw [eM45]; exact q8.trans (m8.set _)
        rw [hsm] at hR
        have ek : k = (gCyc S).toNat := by omega
        have hMI : mI M45 := hMI.of (fun f i hf => by rw [gM45, if_neg (by omega)])
        have hbc := btB_b S j k
        refine g_iload X dX3_betters_80 hl 2 rfl ?_
        refine g_iload_n X dX3_betters_82 rfl hl 3 rfl ?_
        refine g_icmp_eq X dX3_betters_83 (tgt := 90) (by decide) (by omega) (fun c83 => ?_) (fun c83 => ?_)
        · refine g_iconst X dX3_betters_90 ?_
          exact g_zret X (by omega) hS (⟨by rw [← ek]; grind [bZ], M45, hM, (by unfold btS; rw [← ek]; exact hR), q8⟩) ⟨Nat.le_of_ble_eq_true rfl, Nat.le_of_ble_eq_true rfl⟩ dX3_betters_91
        · refine g_iconst X dX3_betters_86 ?_
          refine g_goto X dX3_betters_87 (tgt := 91) (by decide) ?_
          exact g_zret X (by omega) hS (⟨by rw [← ek]; grind [bZ], M45, hM, (by unfold btS; rw [← ek]; exact hR), q8⟩) ⟨Nat.le_of_ble_eq_true rfl, Nat.le_of_ble_eq_true rfl⟩ dX3_betters_91
      · refine g_aload_n X dX3_betters_24 rfl hl 4 rfl ?_
        refine g_get X hk (v := .ref (am 8)) in_X3 rfl (MP.O hM) 8 (by decide) q609 (rfl) dX3_betters_25 ?_
        refine g_iload_n X dX3_betters_28 rfl hl 5 rfl ?_
        refine g_iload X dX3_betters_29 hl 0 rfl ?_
        refine g_iast X hk hS (MP.A0 hM (Or.inr rfl)) (j := j) (n := 5) (f := (Ma 8)) (MP.I hM 8 rfl) (rfl) (by omega) dX3_betters_31 (fun H locs hc_ hk hz_ ho_ hS => ?_)
        obtain ⟨M46, eM46⟩ : ∃ M_ : MS, M_ = mset Ma 8 j ((k : Nat) : Int) := ⟨_, rfl⟩
        have hM : MP E am M46 H := by rw [eM46]; exact MP.ast hM 8 rfl hc_ ho_
        have gM46 : ∀ f i, M46 f i = if f = 8 ∧ i = j then ((k : Nat) : Int) else Ma f i := by intro f i; rw [eM46]; rfl
        have hR : MR (gset S 14 j 0 ((k : Nat) : Int)) M46 := by rw [← hsm, eM46]; exact MR_off hR (by omega)
        have q8 : m8 M M46 := by rw [eM46]; exact q8.trans (m8.set _)
        have o8 : offE S (gset S 14 j 0 ((k : Nat) : Int)) := (offE.rf hI).set (by omega)
        have hI2 : gI (gset S 14 j 0 ((k : Nat) : Int)) := o8.gI hI
        have hL2 := o8.hL hL
        have hPl2 := q8.pl o8 hPl
        have hMI : mI M46 := hMI.of (fun f i hf => by rw [gM46, if_neg (by omega)])
        refine g_aload_n X dX3_betters_32 rfl hl 4 rfl ?_
        refine g_pV X hk (As := []) (rest := []) rfl (MP.O hM) (m_bands l E am (gset S 14 j 0 ((k : Nat) : Int)) M46 H hM hI2 hR hMI hL2 hPl2) 0 (lw_V q775 q777 qs27 q48 q778) (by decide +kernel) ⟨⟨Nat.le_of_ble_eq_true rfl, Nat.le_of_ble_eq_true rfl⟩, Nat.le_of_ble_eq_true rfl, Nat.le_of_ble_eq_true rfl⟩ rfl rfl hl.1 (Nat.le_of_ble_eq_true rfl) dX3_betters_33 ?_
        have hb2 := bns_b hI2
        refine g_istore (lv' := [(6, .int (iI (bns (gset S 14 j 0 ((k : Nat) : Int))))), (5, .int (iI ((k : Nat) : Int))), (3, .int (iI (btM S j k))), (4, .int (iI (btB S j k))), (2, .int (iI (gOff S j))), (0, .ref (am 0)), (1, .int (iI ((j : Nat) : Int)))]) X dX3_betters_36 hl (by decide) rfl (fun ls hl => ?_)
        have join_51 : gHide (∀ (z : Int) (ls : Array Slot), z = (btB S j (k + 1)) → lv_has ls 7 [(6, .int (iI (bns (gset S 14 j 0 ((k : Nat) : Int))))), (5, .int (iI ((k : Nat) : Int))), (3, .int (iI (btM S j k))), (4, .int (iI (btB S j k))), (2, .int (iI (gOff S j))), (0, .ref (am 0)), (1, .int (iI ((j : Nat) : Int)))] → W P_ l e_ (gR 7 0 0) s M_ ([.ref (am 0), .int (iI ((j : Nat) : Int))] : List Value).toArray bl mt_ c_ H locs 0 0 (MQ bl (gQi (mW am) (fun z H1 => z = bZ (decide (¬ btB S j (gCyc S).toNat = gOff S j)) ∧ ∃ M1, MP E am M1 H1 ∧ MR (btS S j) M1 ∧ m8 M M1)) ([.ref (am 0), .int (iI ((j : Nat) : Int))] : List Value).toArray s 0 0 (mW am)) (F0 M_ 51 ls [.int (iI z)])) := by
          intro z ls e_z hl
          subst e_z
          have hl : lv_has ls 7 [(6, .int (iI (bns (gset S 14 j 0 ((k : Nat) : Int))))), (5, .int (iI ((k : Nat) : Int))), (3, .int (iI (btM S j k))), (4, .int (iI (btB S j k))), (2, .int (iI (gOff S j))), (0, .ref (am 0)), (1, .int (iI ((j : Nat) : Int)))] := hl
          refine g_istore (lv' := [(4, .int (iI (btB S j (k + 1)))), (6, .int (iI (bns (gset S 14 j 0 ((k : Nat) : Int))))), (5, .int (iI ((k : Nat) : Int))), (3, .int (iI (btM S j k))), (2, .int (iI (gOff S j))), (0, .ref (am 0)), (1, .int (iI ((j : Nat) : Int)))]) X dX3_betters_51 hl (by decide) rfl (fun ls hl => ?_)
          have join_65 : gHide (∀ (z : Int) (ls : Array Slot), z = (btM S j (k + 1)) → lv_has ls 7 [(4, .int (iI (btB S j (k + 1)))), (6, .int (iI (bns (gset S 14 j 0 ((k : Nat) : Int))))), (5, .int (iI ((k : Nat) : Int))), (3, .int (iI (btM S j k))), (2, .int (iI (gOff S j))), (0, .ref (am 0)), (1, .int (iI ((j : Nat) : Int)))] → W P_ l e_ (gR 7 0 0) s M_ ([.ref (am 0), .int (iI ((j : Nat) : Int))] : List Value).toArray bl mt_ c_ H locs 0 0 (MQ bl (gQi (mW am) (fun z H1 => z = bZ (decide (¬ btB S j (gCyc S).toNat = gOff S j)) ∧ ∃ M1, MP E am M1 H1 ∧ MR (btS S j) M1 ∧ m8 M M1)) ([.ref (am 0), .int (iI ((j : Nat) : Int))] : List Value).toArray s 0 0 (mW am)) (F0 M_ 65 ls [.int (iI z)])) := by
            intro z ls e_z hl
            subst e_z
            have hl : lv_has ls 7 [(4, .int (iI (btB S j (k + 1)))), (6, .int (iI (bns (gset S 14 j 0 ((k : Nat) : Int))))), (5, .int (iI ((k : Nat) : Int))), (3, .int (iI (btM S j k))), (2, .int (iI (gOff S j))), (0, .ref (am 0)), (1, .int (iI ((j : Nat) : Int)))] := hl
            refine g_istore_n (lv' := [(3, .int (iI (btM S j (k + 1)))), (4, .int (iI (btB S j (k + 1)))), (6, .int (iI (bns (gset S 14 j 0 ((k : Nat) : Int))))), (5, .int (iI ((k : Nat) : Int))), (2, .int (iI (gOff S j))), (0, .ref (am 0)), (1, .int (iI ((j : Nat) : Int)))]) X dX3_betters_65 rfl hl (by decide) rfl (fun ls hl => ?_)
            refine g_iinc (lv' := [(5, .int (iI (((k : Nat) : Int) + 1))), (3, .int (iI (btM S j (k + 1)))), (4, .int (iI (btB S j (k + 1)))), (6, .int (iI (bns (gset S 14 j 0 ((k : Nat) : Int))))), (2, .int (iI (gOff S j))), (0, .ref (am 0)), (1, .int (iI ((j : Nat) : Int)))]) X dX3_betters_66 hl (k := 3) rfl (by decide) rfl (fun ls hl => ?_)
            refine g_goto X dX3_betters_69 (tgt := 15) (by decide) ?_
            exact ih_15.out (k + 1) M46 (gset S 14 j 0 ((k : Nat) : Int)) (((k : Nat) : Int) + 1) (btM S j (k + 1)) (btB S j (k + 1)) H locs (by omega) (by omega) (rfl) (rfl) (by omega) o8 (fun z => gset_gset 14 j 0 _ z) q8 hR hMI hk hS hM _ (lv_sub hl [0, 1, 2, 4, 5, 6] rfl)
          refine g_iload X dX3_betters_53 hl 1 rfl ?_
          refine g_iload_n X dX3_betters_55 rfl hl 3 rfl ?_
          refine g_icmp_le X dX3_betters_56 (tgt := 64) (by decide) (by omega) (fun c56 => ?_) (fun c56 => ?_)
          · refine g_iload_n X dX3_betters_64 rfl hl 3 rfl ?_
            exact join_65.out (btM S j k) _ (by simp only [btM]; grind) (lv_sub hl [0, 1, 2, 3, 4, 5, 6] rfl)
          · refine g_iload X dX3_betters_59 hl 1 rfl ?_
            refine g_goto X dX3_betters_61 (tgt := 65) (by decide) ?_
            exact join_65.out (bns (gset S 14 j 0 ((k : Nat) : Int))) _ (by simp only [btM]; grind) (lv_sub hl [0, 1, 2, 3, 4, 5, 6] rfl)
        refine g_iload X dX3_betters_38 hl 0 rfl ?_
        refine g_iload_n X dX3_betters_40 rfl hl 2 rfl ?_
        refine g_icmp_le X dX3_betters_41 (tgt := 49) (by decide) (by omega) (fun c41 => ?_) (fun c41 => ?_)
        · refine g_iload X dX3_betters_49 hl 3 rfl ?_
          exact join_51.out (btB S j k) _ (by simp only [btB]; grind) (lv_sub hl [0, 1, 2, 3, 4, 5, 6] rfl)
        · refine g_iload X dX3_betters_44 hl 1 rfl ?_
          refine g_goto X dX3_betters_46 (tgt := 51) (by decide) ?_
          exact join_51.out ((k : Nat) : Int) _ (by simp only [btB]; grind) (lv_sub hl [0, 1, 2, 3, 4, 5, 6] rfl)
  exact loop_15.out ((gCyc S).toNat + 1) 0 M S 0 (-1) 0 s.heap [] (by omega) (rfl) (rfl) (rfl) (by omega) (offE.rf hI) (fun _ => rfl) (m8.rf M) hR hMI hk hS hM _ (lv_sub hl [0, 2, 1, 3, 4, 5] rfl)
set_option maxHeartbeats 4000000 in
theorem m_improve (l : Launch) (E : EP) (am : Nat → Nat) (S : GS) (M : MS) (H : Heap) (hM : MP E am M H) (hI : gI S) (hR : MR S M) (hMI : mI M) : gMi l E yX3_improve cX3_improve 4 .int 8 0 0 H [.ref (am 0)] (mW am) (fun z H1 => ∃ M1, MP E am M1 H1 ∧ M1 0 0 = erI S ∧ (erI S = 0 → z = bns (imS S 10).1 ∧ MR (imS S 10).1 M1 ∧ mC M M1) ∧ (¬ erI S = 0 → mQ M M1)) := by
  refine g_met (plainFor_of_name (by decide)) (Nat.le_of_ble_eq_true rfl) (fun P_ e_ s M_ bl mt_ c_ ls X hmeth_ hk hh hl => ?_)
  subst hh
  have X : gX P_ s M_ mt_ c_ cX3_improve 4 ([.ref (am 0)] : List Value).toArray RX3 (some .int) := X
  have hl : lv_has ls 4 [(0, .ref (am 0))] := hl
  have hS : va_S (mW am) s.heap s.heap [] := va_S.rf
  have hn5 := hI.1.1
  have hrun := hI.1.2.1
  have her : 0 ≤ erI S ∧ erI S ≤ 1 := by unfold erI; grind
  refine g_aload_n X dX3_improve_0 rfl hl 0 rfl ?_
  have join_20 : gHide (∀ (Mx : MS) (z : Int) (H : Heap) (locs : List Loc) (ls : Array Slot), z = (erI S) → (mQ M Mx) → (MR S Mx) → (mI Mx) → (∀ j, j < gN S → mPl S Mx j) → (kk E s H) → (va_S (mW am) s.heap H locs) → (MP E am Mx H) → lv_has ls 4 [(0, .ref (am 0))] → W P_ l e_ (gR 8 0 0) s M_ ([.ref (am 0)] : List Value).toArray bl mt_ c_ H locs 0 0 (MQ bl (gQi (mW am) (fun z H1 => ∃ M1, MP E am M1 H1 ∧ M1 0 0 = erI S ∧ (erI S = 0 → z = bns (imS S 10).1 ∧ MR (imS S 10).1 M1 ∧ mC M M1) ∧ (¬ erI S = 0 → mQ M M1))) ([.ref (am 0)] : List Value).toArray s 0 0 (mW am)) (F0 M_ 20 ls [.int (iI z), .ref (am 0)])) := by
    intro Mx z H locs ls e_z hQ hR hMI hP9 hk hS hM hl
    subst e_z
    have hl : lv_has ls 4 [(0, .ref (am 0))] := hl
    refine g_calli (g_runV X hk (As := [.int (iI (erI S))]) (rest := []) rfl (MP.O hM) (m_holds l E am Mx H hM (erI S) (by omega)) 1 (lw_V q694 q696 qs15 q48 q697) (by decide +kernel) ⟨⟨Nat.le_of_ble_eq_true rfl, Nat.le_of_ble_eq_true rfl⟩, Nat.le_of_ble_eq_true rfl, Nat.le_of_ble_eq_true rfl⟩ rfl rfl hl.1 (Nat.le_of_ble_eq_true rfl) dX3_improve_20) hk hS (fun q h => h) (MP.N hM) (fun z_ H locs hP_ hk hz_ ho_ hS => ?_)
    obtain ⟨hz0_, hM⟩ := hP_
    subst hz0_
    obtain ⟨M47, eM47⟩ : ∃ M_ : MS, M_ = mset Mx 0 0 (erI S) := ⟨_, rfl⟩
    rw [← eM47] at hM
    have qM47 : mQ Mx M47 := by rw [eM47]; exact mset_Q Mx (Or.inl rfl)
    have tM47 : M47 0 0 = (erI S) := by rw [eM47]; exact mset_s _ _ _ _
    have zM47 : ∀ f i, f ≠ 0 → M47 f i = Mx f i := fun f i hf => by rw [eM47]; exact mset_n _ _ (fun e => hf e.1)
    have hR : MR S M47 := hR.Q qM47
    have hMI : mI M47 := hMI.Q qM47
    have hz9 := bZ_le (decide (erI S = 0))
    refine g_if_ne X dX3_improve_23 (tgt := 28) (by decide) (by omega) (fun c23 => ?_) (fun c23 => ?_)
    · have hz : erI S = 0 := by grind [bZ]
      have hL : ∀ j, j < gN S → 0 ≤ lft S j := (alP_iff S (gN S)).mp (by revert hz; unfold erI; grind)
      have hPl : ∀ j, j < gN S → mPl S M47 j := fun j hj => (hP9 j hj).Z zM47
      obtain ⟨Mh, eMh⟩ : ∃ M_ : MS, M_ = M47 := ⟨_, rfl⟩
      have tMh : Mh 0 0 = erI S := by rw [eMh]; exact tM47
      have cMh : mC M Mh := by rw [eMh]; exact ((hQ).trans qM47).C
      rw [← eMh] at hPl hR hM hMI
      refine g_iconst X dX3_improve_28 ?_
      refine g_istore_n (lv' := [(1, .int (iI 1)), (0, .ref (am 0))]) X dX3_improve_29 rfl hl (by decide) rfl (fun ls hl => ?_)
      refine g_iconst X dX3_improve_30 ?_
      refine g_istore_n (lv' := [(2, .int (iI 0)), (1, .int (iI 1)), (0, .ref (am 0))]) X dX3_improve_31 rfl hl (by decide) rfl (fun ls hl => ?_)
      have loop_32 : gHide (∀ (n_ : Nat) (k : Nat) (Ma : MS) (v2 : Int) (v1 : Int) (H : Heap) (locs : List Loc), 11 ≤ k + n_ → v2 = ((k : Nat) : Int) → v1 = (bZ (imS S k).2) → (k ≤ 10) → (offE S (imS S k).1) → (m8 Mh Ma) → (MR (imS S k).1 Ma) → (mI Ma) → (kk E s H) → (va_S (mW am) s.heap H locs) → (MP E am Ma H) → ∀ (ls : Array Slot), lv_has ls 4 [(2, .int (iI v2)), (1, .int (iI v1)), (0, .ref (am 0))] → W P_ l e_ (gR 8 0 0) s M_ ([.ref (am 0)] : List Value).toArray bl mt_ c_ H locs 0 0 (MQ bl (gQi (mW am) (fun z H1 => ∃ M1, MP E am M1 H1 ∧ M1 0 0 = erI S ∧ (erI S = 0 → z = bns (imS S 10).1 ∧ MR (imS S 10).1 M1 ∧ mC M M1) ∧ (¬ erI S = 0 → mQ M M1))) ([.ref (am 0)] : List Value).toArray s 0 0 (mW am)) (F0 M_ 32 ls [])) := by
        intro n_
        induction n_ with
        | zero => intro k Ma v2 v1 H locs hb_ e_v2 e_v1 hkb o8 q8 hR hMI hk hS hM ls hl; exact absurd hb_ (by omega)
        | succ n_ ih_32 =>
          replace ih_32 := gHide.mk ih_32
          intro k Ma v2 v1 H locs hb_ e_v2 e_v1 hkb o8 q8 hR hMI hk hS hM ls hl
          subst e_v2
          subst e_v1
          have hl : lv_has ls 4 [(2, .int (iI ((k : Nat) : Int))), (1, .int (iI (bZ (imS S k).2))), (0, .ref (am 0))] := hl
          have hcy := o8.cyc
          have hny := o8.n
          have hIa := o8.gI hI
          have hL2 := o8.hL hL
          have hPl2 := q8.pl o8 hPl
          have hz32 := bZ_le (imS S k).2
          have ho8 := o8
          refine g_iload_n X dX3_improve_32 rfl hl 0 rfl ?_
          refine g_bipush X dX3_improve_33 rfl ?_
          refine g_icmp_ge X dX3_improve_35 (tgt := 84) (by decide) (by omega) (fun c35 => ?_) (fun c35 => ?_)
          · have hend : imS S 10 = imS S k := by
                by_cases e : k = 10
                · rw [e]
                · have h1 : (imS S k).2 = false := by grind [bZ]
                  have h2 := imS_st h1 (10 - k)
                  rw [show k + (10 - k) = 10 by omega] at h2
                  exact h2
            refine g_aload_n X dX3_improve_84 rfl hl 2 rfl ?_
            refine g_pV X hk (As := []) (rest := []) rfl (MP.O hM) (m_bands l E am (imS S k).1 Ma H hM hIa hR hMI hL2 hPl2) 0 (lw_V q775 q777 qs27 q48 q778) (by decide +kernel) ⟨⟨Nat.le_of_ble_eq_true rfl, Nat.le_of_ble_eq_true rfl⟩, Nat.le_of_ble_eq_true rfl, Nat.le_of_ble_eq_true rfl⟩ rfl rfl hl.1 (Nat.le_of_ble_eq_true rfl) dX3_improve_85 ?_
            exact g_iret X hS (⟨Ma, hM, by rw [q8 0 0 (by omega)]; exact tMh, fun _ => ⟨by rw [hend], by rw [hend]; exact hR, cMh.trans q8.C⟩, fun h => absurd hz h⟩) ⟨Nat.le_of_ble_eq_true rfl, Nat.le_of_ble_eq_true rfl⟩ dX3_improve_88
          · refine g_iload_n X dX3_improve_38 rfl hl 1 rfl ?_
            refine g_if_eq X dX3_improve_39 (tgt := 84) (by decide) (by omega) (fun c39 => ?_) (fun c39 => ?_)
            · have hend : imS S 10 = imS S k := by
                  by_cases e : k = 10
                  · rw [e]
                  · have h1 : (imS S k).2 = false := by grind [bZ]
                    have h2 := imS_st h1 (10 - k)
                    rw [show k + (10 - k) = 10 by omega] at h2
                    exact h2
              refine g_aload_n X dX3_improve_84 rfl hl 2 rfl ?_
              refine g_pV X hk (As := []) (rest := []) rfl (MP.O hM) (m_bands l E am (imS S k).1 Ma H hM hIa hR hMI hL2 hPl2) 0 (lw_V q775 q777 qs27 q48 q778) (by decide +kernel) ⟨⟨Nat.le_of_ble_eq_true rfl, Nat.le_of_ble_eq_true rfl⟩, Nat.le_of_ble_eq_true rfl, Nat.le_of_ble_eq_true rfl⟩ rfl rfl hl.1 (Nat.le_of_ble_eq_true rfl) dX3_improve_85 ?_
              exact g_iret X hS (⟨Ma, hM, by rw [q8 0 0 (by omega)]; exact tMh, fun _ => ⟨by rw [hend], by rw [hend]; exact hR, cMh.trans q8.C⟩, fun h => absurd hz h⟩) ⟨Nat.le_of_ble_eq_true rfl, Nat.le_of_ble_eq_true rfl⟩ dX3_improve_88
            · have hch : (imS S k).2 = true := by grind [bZ]
              refine g_iconst X dX3_improve_42 ?_
              refine g_istore_n (lv' := [(1, .int (iI 0)), (2, .int (iI ((k : Nat) : Int))), (0, .ref (am 0))]) X dX3_improve_43 rfl hl (by decide) rfl (fun ls hl => ?_)
              refine g_iconst X dX3_improve_44 ?_
              refine g_istore_n (lv' := [(3, .int (iI 1)), (1, .int (iI 0)), (2, .int (iI ((k : Nat) : Int))), (0, .ref (am 0))]) X dX3_improve_45 rfl hl (by decide) rfl (fun ls hl => ?_)
              have loop_46 : gHide (∀ (n_ : Nat) (i : Nat) (Mb : MS) (v3 : Int) (v1 : Int) (H : Heap) (locs : List Loc), gN S + 1 ≤ i + n_ → v3 = (((i + 1) : Nat) : Int) → v1 = (bZ (imC (imS S k).1 i)) → (i + 1 ≤ gN S) → (offE S (imI (imS S k).1 i)) → (m8 Mh Mb) → (MR (imI (imS S k).1 i) Mb) → (mI Mb) → (kk E s H) → (va_S (mW am) s.heap H locs) → (MP E am Mb H) → ∀ (ls : Array Slot), lv_has ls 4 [(3, .int (iI v3)), (1, .int (iI v1)), (2, .int (iI ((k : Nat) : Int))), (0, .ref (am 0))] → W P_ l e_ (gR 8 0 0) s M_ ([.ref (am 0)] : List Value).toArray bl mt_ c_ H locs 0 0 (MQ bl (gQi (mW am) (fun z H1 => ∃ M1, MP E am M1 H1 ∧ M1 0 0 = erI S ∧ (erI S = 0 → z = bns (imS S 10).1 ∧ MR (imS S 10).1 M1 ∧ mC M M1) ∧ (¬ erI S = 0 → mQ M M1))) ([.ref (am 0)] : List Value).toArray s 0 0 (mW am)) (F0 M_ 46 ls [])) := by
                intro n_
                induction n_ with
                | zero => intro i Mb v3 v1 H locs hb_ e_v3 e_v1 hib o8 q8 hR hMI hk hS hM ls hl; exact absurd hb_ (by omega)
                | succ n_ ih_46 =>
                  replace ih_46 := gHide.mk ih_46
                  intro i Mb v3 v1 H locs hb_ e_v3 e_v1 hib o8 q8 hR hMI hk hS hM ls hl
                  subst e_v3
                  subst e_v1
                  have hl : lv_has ls 4 [(3, .int (iI (((i + 1) : Nat) : Int))), (1, .int (iI (bZ (imC (imS S k).1 i)))), (2, .int (iI ((k : Nat) : Int))), (0, .ref (am 0))] := hl
                  have hcy := o8.cyc
                  have hny := o8.n
                  have hIa := o8.gI hI
                  have hL2 := o8.hL hL
                  have hPl2 := q8.pl o8 hPl
                  have hz46 := bZ_le (imC (imS S k).1 i)
                  refine g_iload_n X dX3_improve_46 rfl hl 0 rfl ?_
                  refine g_aload_n X dX3_improve_47 rfl hl 3 rfl ?_
                  refine g_get X hk (v := .int (iI (((gN (imI (imS S k).1 i)) : Nat) : Int))) in_X3 rfl (MP.O hM) 1 (by decide) q602 (sI (MR.n hR)) dX3_improve_48 ?_
                  refine g_icmp_ge X dX3_improve_51 (tgt := 78) (by decide) (by omega) (fun c51 => ?_) (fun c51 => ?_)
                  · refine g_iinc (lv' := [(2, .int (iI (((k : Nat) : Int) + 1))), (3, .int (iI (((i + 1) : Nat) : Int))), (1, .int (iI (bZ (imC (imS S k).1 i)))), (0, .ref (am 0))]) X dX3_improve_78 hl (k := 2) rfl (by decide) rfl (fun ls hl => ?_)
                    refine g_goto X dX3_improve_81 (tgt := 32) (by decide) ?_
                    have hRk : MR (imS S (k + 1)).1 Mb := by simp only [imS]; rw [if_pos hch, show gN S - 1 = i by omega]; exact hR
                    exact ih_32.out (k + 1) Mb (((k : Nat) : Int) + 1) (bZ (imC (imS S k).1 i)) H locs (by omega) (by omega) (by simp only [imS]; rw [if_pos hch, show gN S - 1 = i by omega]) (by omega) (imS_off hI (k + 1)) q8 hRk hMI hk hS hM _ (lv_sub hl [0, 2, 3] rfl)
                  · refine g_aload_n X dX3_improve_54 rfl hl 3 rfl ?_
                    refine g_iload_n X dX3_improve_55 rfl hl 0 rfl ?_
                    refine g_calli (g_runV X hk (As := [.int (iI (((i + 1) : Nat) : Int))]) (rest := []) rfl (MP.O hM) (m_betters l E am (imI (imS S k).1 i) Mb H hM hIa hR (i + 1) (by omega) hMI hL2 hPl2) 1 (lw_V q771 q773 qs26 q48 q774) (by decide +kernel) ⟨⟨Nat.le_of_ble_eq_true rfl, Nat.le_of_ble_eq_true rfl⟩, Nat.le_of_ble_eq_true rfl, Nat.le_of_ble_eq_true rfl⟩ rfl rfl hl.1 (Nat.le_of_ble_eq_true rfl) dX3_improve_56) hk hS (fun q h => h) (MP.N hM) (fun z_ H locs hP_ hk hz_ ho_ hS => ?_)
                    obtain ⟨hz0_, hP_⟩ := hP_
                    subst hz0_
                    obtain ⟨M48, hM, hR, qM48⟩ := hP_
                    have hMI : mI M48 := qM48.mI hMI
                    have hbz := bZ_le (decide (¬ btB (imI (imS S k).1 i) (i + 1) (gCyc (imI (imS S k).1 i)).toNat = gOff (imI (imS S k).1 i) (i + 1)))
                    have join_71 : gHide (∀ (z : Int) (ls : Array Slot), z = (bZ (imC (imS S k).1 (i + 1))) → lv_has ls 4 [(3, .int (iI (((i + 1) : Nat) : Int))), (1, .int (iI (bZ (imC (imS S k).1 i)))), (2, .int (iI ((k : Nat) : Int))), (0, .ref (am 0))] → W P_ l e_ (gR 8 0 0) s M_ ([.ref (am 0)] : List Value).toArray bl mt_ c_ H locs 0 0 (MQ bl (gQi (mW am) (fun z H1 => ∃ M1, MP E am M1 H1 ∧ M1 0 0 = erI S ∧ (erI S = 0 → z = bns (imS S 10).1 ∧ MR (imS S 10).1 M1 ∧ mC M M1) ∧ (¬ erI S = 0 → mQ M M1))) ([.ref (am 0)] : List Value).toArray s 0 0 (mW am)) (F0 M_ 71 ls [.int (iI z)])) := by
                      intro z ls e_z hl
                      subst e_z
                      have hl : lv_has ls 4 [(3, .int (iI (((i + 1) : Nat) : Int))), (1, .int (iI (bZ (imC (imS S k).1 i)))), (2, .int (iI ((k : Nat) : Int))), (0, .ref (am 0))] := hl
                      have hz71 := bZ_le (imC (imS S k).1 (i + 1))
                      refine g_istore_n (lv' := [(1, .int (iI (bZ (imC (imS S k).1 (i + 1))))), (3, .int (iI (((i + 1) : Nat) : Int))), (2, .int (iI ((k : Nat) : Int))), (0, .ref (am 0))]) X dX3_improve_71 rfl hl (by decide) rfl (fun ls hl => ?_)
                      refine g_iinc (lv' := [(3, .int (iI ((((i + 1) : Nat) : Int) + 1))), (1, .int (iI (bZ (imC (imS S k).1 (i + 1))))), (2, .int (iI ((k : Nat) : Int))), (0, .ref (am 0))]) X dX3_improve_72 hl (k := 1) rfl (by decide) rfl (fun ls hl => ?_)
                      refine g_goto X dX3_improve_75 (tgt := 46) (by decide) ?_
                      exact ih_46.out (i + 1) M48 ((((i + 1) : Nat) : Int) + 1) (bZ (imC (imS S k).1 (i + 1))) H locs (by omega) (by omega) (rfl) (by omega) (ho8.trans (imI_off (ho8.gI hI) (i + 1))) (q8.trans qM48) hR hMI hk hS hM _ (lv_sub hl [0, 1, 2, 3] rfl)
                    refine g_if_ne X dX3_improve_59 (tgt := 66) (by decide) (by omega) (fun c59 => ?_) (fun c59 => ?_)
                    · refine g_iconst X dX3_improve_66 ?_
                      refine g_goto X dX3_improve_67 (tgt := 71) (by decide) ?_
                      exact join_71.out 1 _ (by simp only [imC]; grind [bZ]) (lv_sub hl [0, 1, 2, 3] rfl)
                    · refine g_iload_n X dX3_improve_62 rfl hl 1 rfl ?_
                      refine g_if_eq X dX3_improve_63 (tgt := 70) (by decide) (by omega) (fun c63 => ?_) (fun c63 => ?_)
                      · refine g_iconst X dX3_improve_70 ?_
                        exact join_71.out 0 _ (by simp only [imC]; grind [bZ]) (lv_sub hl [0, 1, 2, 3] rfl)
                      · refine g_iconst X dX3_improve_66 ?_
                        refine g_goto X dX3_improve_67 (tgt := 71) (by decide) ?_
                        exact join_71.out 1 _ (by simp only [imC]; grind [bZ]) (lv_sub hl [0, 1, 2, 3] rfl)
              exact loop_46.out (gN S + 1) 0 Ma 1 0 H locs (by omega) (rfl) (rfl) (by omega) ho8 q8 hR hMI hk hS hM _ (lv_sub hl [0, 1, 2, 3] rfl)
      exact loop_32.out 11 0 Mh 0 1 H locs (by omega) (rfl) (rfl) (by omega) (offE.rf hI) (m8.rf Mh) hR hMI hk hS hM _ (lv_sub hl [0, 1, 2] rfl)
    · refine g_iconst X dX3_improve_26 ?_
      exact g_iret X hS (⟨M47, hM, tM47, fun h => absurd h (by grind [bZ]), fun _ => (hQ).trans qM47⟩) ⟨Nat.le_of_ble_eq_true rfl, Nat.le_of_ble_eq_true rfl⟩ dX3_improve_27
  refine g_aload_n X dX3_improve_1 rfl hl 0 rfl ?_
  refine g_calli (g_runV X hk (As := []) (rest := [.ref (am 0)]) rfl (MP.O hM) (m_plansAll l E am S M s.heap hM hI hR) 0 (lw_V q751 q753 qs21 q48 q754) (by decide +kernel) ⟨⟨Nat.le_of_ble_eq_true rfl, Nat.le_of_ble_eq_true rfl⟩, Nat.le_of_ble_eq_true rfl, Nat.le_of_ble_eq_true rfl⟩ rfl rfl hl.1 (Nat.le_of_ble_eq_true rfl) dX3_improve_2) hk hS (fun q h => h) (MP.N hM) (fun z_ H locs hP_ hk hz_ ho_ hS => ?_)
  obtain ⟨hz0_, hP_⟩ := hP_
  subst hz0_
  obtain ⟨M49, hM, xM49, pM49⟩ := hP_
  have qM49 := xM49.Q
  have tM49 := xM49.t
  have hR : MR S M49 := hR.Q qM49
  have hMI : mI M49 := hMI.Q qM49
  have hPl : ∀ j, j < gN S → mPl S M49 j := pM49
  have hap := bZ_le (alP S (gN S))
  refine g_if_eq X dX3_improve_5 (tgt := 15) (by decide) (by omega) (fun c5 => ?_) (fun c5 => ?_)
  · refine g_iconst X dX3_improve_15 ?_
    refine g_goto X dX3_improve_16 (tgt := 20) (by decide) ?_
    exact join_20.out M49 1 H locs _ (by unfold erI; grind [bZ]) qM49 hR hMI hPl hk hS hM (lv_sub hl [0] rfl)
  · refine g_aload_n X dX3_improve_8 rfl hl 0 rfl ?_
    refine g_get X hk (v := .int (iI (gRun S))) in_X3 rfl (MP.O hM) 3 (by decide) q604 (sI (MR.run hR)) dX3_improve_9 ?_
    refine g_if_eq X dX3_improve_12 (tgt := 19) (by decide) (by omega) (fun c12 => ?_) (fun c12 => ?_)
    · refine g_iconst X dX3_improve_19 ?_
      exact join_20.out M49 0 H locs _ (by unfold erI; grind [bZ]) qM49 hR hMI hPl hk hS hM (lv_sub hl [0] rfl)
    · refine g_iconst X dX3_improve_15 ?_
      refine g_goto X dX3_improve_16 (tgt := 20) (by decide) ?_
      exact join_20.out M49 1 H locs _ (by unfold erI; grind [bZ]) qM49 hR hMI hPl hk hS hM (lv_sub hl [0] rfl)
set_option maxHeartbeats 4000000 in
theorem m_bestByAll (l : Launch) (E : EP) (am : Nat → Nat) (S : GS) (M : MS) (H : Heap) (hM : MP E am M H) (hI : gI S) (hR : MR S M) (hMI : mI M) : gMi l E yX3_bestByAll cX3_bestByAll 6 .int 7 0 0 H [.ref (am 0)] (mW am) (fun z H1 => ∃ M1, MP E am M1 H1 ∧ M1 0 0 = erA S ∧ (erA S = 0 → z = baM S (baN S).toNat) ∧ mQ M M1) := by
  refine g_met (plainFor_of_name (by decide)) (Nat.le_of_ble_eq_true rfl) (fun P_ e_ s M_ bl mt_ c_ ls X hmeth_ hk hh hl => ?_)
  subst hh
  have X : gX P_ s M_ mt_ c_ cX3_bestByAll 6 ([.ref (am 0)] : List Value).toArray RX3 (some .int) := X
  have hl : lv_has ls 6 [(0, .ref (am 0))] := hl
  have hS : va_S (mW am) s.heap s.heap [] := va_S.rf
  have hn5 := hI.1.1
  have hc := hI.2.1
  have her : 0 ≤ erA S ∧ erA S ≤ 1 := by unfold erA; grind
  have hbn : 1 ≤ baN S ∧ baN S ≤ 8100 := by
    unfold baN
    split
    · have h1 := Int.mul_le_mul_of_nonneg_left hc.2 (show 0 ≤ gCyc S by omega)
      have h2 := Int.mul_le_mul_of_nonneg_left hc.1 (show 0 ≤ gCyc S by omega)
      omega
    · omega
  refine g_aload_n X dX3_bestByAll_0 rfl hl 0 rfl ?_
  have join_21 : gHide (∀ (Mx : MS) (z : Int) (H : Heap) (locs : List Loc) (ls : Array Slot), z = (erA S) → (mQ M Mx) → (MR S Mx) → (mI Mx) → (∀ j, j < gN S → mPl S Mx j) → (kk E s H) → (va_S (mW am) s.heap H locs) → (MP E am Mx H) → lv_has ls 6 [(0, .ref (am 0))] → W P_ l e_ (gR 7 0 0) s M_ ([.ref (am 0)] : List Value).toArray bl mt_ c_ H locs 0 0 (MQ bl (gQi (mW am) (fun z H1 => ∃ M1, MP E am M1 H1 ∧ M1 0 0 = erA S ∧ (erA S = 0 → z = baM S (baN S).toNat) ∧ mQ M M1)) ([.ref (am 0)] : List Value).toArray s 0 0 (mW am)) (F0 M_ 21 ls [.int (iI z), .ref (am 0)])) := by
    intro Mx z H locs ls e_z hQ hR hMI hP9 hk hS hM hl
    subst e_z
    have hl : lv_has ls 6 [(0, .ref (am 0))] := hl
    refine g_calli (g_runV X hk (As := [.int (iI (erA S))]) (rest := []) rfl (MP.O hM) (m_holds l E am Mx H hM (erA S) (by omega)) 1 (lw_V q694 q696 qs15 q48 q697) (by decide +kernel) ⟨⟨Nat.le_of_ble_eq_true rfl, Nat.le_of_ble_eq_true rfl⟩, Nat.le_of_ble_eq_true rfl, Nat.le_of_ble_eq_true rfl⟩ rfl rfl hl.1 (Nat.le_of_ble_eq_true rfl) dX3_bestByAll_21) hk hS (fun q h => h) (MP.N hM) (fun z_ H locs hP_ hk hz_ ho_ hS => ?_)
    obtain ⟨hz0_, hM⟩ := hP_
    subst hz0_
    obtain ⟨M50, eM50⟩ : ∃ M_ : MS, M_ = mset Mx 0 0 (erA S) := ⟨_, rfl⟩
    rw [← eM50] at hM
    have qM50 : mQ Mx M50 := by rw [eM50]; exact mset_Q Mx (Or.inl rfl)
    have tM50 : M50 0 0 = (erA S) := by rw [eM50]; exact mset_s _ _ _ _
    have zM50 : ∀ f i, f ≠ 0 → M50 f i = Mx f i := fun f i hf => by rw [eM50]; exact mset_n _ _ (fun e => hf e.1)
    have hR : MR S M50 := hR.Q qM50
    have hMI : mI M50 := hMI.Q qM50
    have hz9 := bZ_le (decide (erA S = 0))
    refine g_if_ne X dX3_bestByAll_24 (tgt := 29) (by decide) (by omega) (fun c24 => ?_) (fun c24 => ?_)
    · have hz : erA S = 0 := by grind [bZ]
      have hL : ∀ j, j < gN S → 0 ≤ lft S j := (alP_iff S (gN S)).mp (by revert hz; unfold erA; grind)
      have hn3 : gN S ≤ 3 := by revert hz; unfold erA; grind
      have hPl : ∀ j, j < gN S → mPl S M50 j := fun j hj => (hP9 j hj).Z zM50
      obtain ⟨Mh, eMh⟩ : ∃ M_ : MS, M_ = M50 := ⟨_, rfl⟩
      have tMh : Mh 0 0 = erA S := by rw [eMh]; exact tM50
      have cMh : mQ M Mh := by rw [eMh]; exact ((hQ).trans qM50)
      rw [← eMh] at hPl hR hM hMI
      have hRh := hR
      refine g_aload_n X dX3_bestByAll_29 rfl hl 0 rfl ?_
      refine g_get X hk (v := .ref (am 8)) in_X3 rfl (MP.O hM) 8 (by decide) q609 (rfl) dX3_bestByAll_30 ?_
      refine g_iconst X dX3_bestByAll_33 ?_
      refine g_ialdv X hk (j := 1) (n := 5) (f := (Mh 8)) (v := (Mh 8 1)) (MP.I hM 8 rfl) (rfl) (by omega) (rfl) dX3_bestByAll_34 ?_
      refine g_istore_n (lv' := [(1, .int (iI (Mh 8 1))), (0, .ref (am 0))]) X dX3_bestByAll_35 rfl hl (by decide) rfl (fun ls hl => ?_)
      refine g_aload_n X dX3_bestByAll_36 rfl hl 1 rfl ?_
      refine g_get X hk (v := .ref (am 8)) in_X3 rfl (MP.O hM) 8 (by decide) q609 (rfl) dX3_bestByAll_37 ?_
      refine g_iconst X dX3_bestByAll_40 ?_
      refine g_ialdv X hk (j := 2) (n := 5) (f := (Mh 8)) (v := (Mh 8 2)) (MP.I hM 8 rfl) (rfl) (by omega) (rfl) dX3_bestByAll_41 ?_
      refine g_istore_n (lv' := [(2, .int (iI (Mh 8 2))), (1, .int (iI (Mh 8 1))), (0, .ref (am 0))]) X dX3_bestByAll_42 rfl hl (by decide) rfl (fun ls hl => ?_)
      refine g_iconst X dX3_bestByAll_43 ?_
      refine g_istore_n (lv' := [(3, .int (iI 0)), (2, .int (iI (Mh 8 2))), (1, .int (iI (Mh 8 1))), (0, .ref (am 0))]) X dX3_bestByAll_44 rfl hl (by decide) rfl (fun ls hl => ?_)
      refine g_iconst X dX3_bestByAll_45 ?_
      refine g_istore (lv' := [(4, .int (iI 0)), (3, .int (iI 0)), (2, .int (iI (Mh 8 2))), (1, .int (iI (Mh 8 1))), (0, .ref (am 0))]) X dX3_bestByAll_46 hl (by decide) rfl (fun ls hl => ?_)
      have loop_48 : gHide (∀ (n_ : Nat) (k : Nat) (Ma : MS) (Sa : GS) (v4 : Int) (v3 : Int) (H : Heap) (locs : List Loc), (baN S).toNat + 1 ≤ k + n_ → v4 = ((k : Nat) : Int) → v3 = (baM S k) → (k ≤ (baN S).toNat) → (offE S Sa) → (∀ f i, ¬ (f = 8 ∧ (i = 1 ∨ i = 2)) → Ma f i = Mh f i) → (MR Sa Ma) → (mI Ma) → (kk E s H) → (va_S (mW am) s.heap H locs) → (MP E am Ma H) → ∀ (ls : Array Slot), lv_has ls 6 [(4, .int (iI v4)), (3, .int (iI v3)), (2, .int (iI (Mh 8 2))), (1, .int (iI (Mh 8 1))), (0, .ref (am 0))] → W P_ l e_ (gR 7 0 0) s M_ ([.ref (am 0)] : List Value).toArray bl mt_ c_ H locs 0 0 (MQ bl (gQi (mW am) (fun z H1 => ∃ M1, MP E am M1 H1 ∧ M1 0 0 = erA S ∧ (erA S = 0 → z = baM S (baN S).toNat) ∧ mQ M M1)) ([.ref (am 0)] : List Value).toArray s 0 0 (mW am)) (F0 M_ 48 ls [])) := by
        intro n_
        induction n_ with
        | zero => intro k Ma Sa v4 v3 H locs hb_ e_v4 e_v3 hkb o8 qq hR hMI hk hS hM ls hl; exact absurd hb_ (by omega)
        | succ n_ ih_48 =>
          replace ih_48 := gHide.mk ih_48
          intro k Ma Sa v4 v3 H locs hb_ e_v4 e_v3 hkb o8 qq hR hMI hk hS hM ls hl
          subst e_v4
          subst e_v3
          have hl : lv_has ls 6 [(4, .int (iI ((k : Nat) : Int))), (3, .int (iI (baM S k))), (2, .int (iI (Mh 8 2))), (1, .int (iI (Mh 8 1))), (0, .ref (am 0))] := hl
          have hcy := o8.cyc
          have hny := o8.n
          have hIa := o8.gI hI
          have hbm := baM_b hI k (by omega)
          refine g_iload X dX3_bestByAll_48 hl 0 rfl ?_
          refine g_aload_n X dX3_bestByAll_50 rfl hl 4 rfl ?_
          refine g_get X hk (v := .int (iI (gCyc Sa))) in_X3 rfl (MP.O hM) 2 (by decide) q603 (sI (MR.cyc hR)) dX3_bestByAll_51 ?_
          have join_70 : gHide (∀ (z : Int) (ls : Array Slot), z = (if gN S = 3 then gCyc S else 1) → lv_has ls 6 [(4, .int (iI ((k : Nat) : Int))), (3, .int (iI (baM S k))), (2, .int (iI (Mh 8 2))), (1, .int (iI (Mh 8 1))), (0, .ref (am 0))] → W P_ l e_ (gR 7 0 0) s M_ ([.ref (am 0)] : List Value).toArray bl mt_ c_ H locs 0 0 (MQ bl (gQi (mW am) (fun z H1 => ∃ M1, MP E am M1 H1 ∧ M1 0 0 = erA S ∧ (erA S = 0 → z = baM S (baN S).toNat) ∧ mQ M M1)) ([.ref (am 0)] : List Value).toArray s 0 0 (mW am)) (F0 M_ 70 ls [.int (iI z), .int (iI (gCyc Sa)), .int (iI ((k : Nat) : Int))])) := by
            intro z ls e_z hl
            subst e_z
            have hl : lv_has ls 6 [(4, .int (iI ((k : Nat) : Int))), (3, .int (iI (baM S k))), (2, .int (iI (Mh 8 2))), (1, .int (iI (Mh 8 1))), (0, .ref (am 0))] := hl
            have h71 : gCyc Sa * (if gN S = 3 then gCyc S else 1) = baN S := by rw [hcy]; rfl
            refine g_imul X dX3_bestByAll_70 ?_
            refine g_icmp_ge X dX3_bestByAll_71 (tgt := 125) (by decide) (by omega) (fun c71 => ?_) (fun c71 => ?_)
            · refine g_aload_n X dX3_bestByAll_125 rfl hl 4 rfl ?_
              refine g_get X hk (v := .ref (am 8)) in_X3 rfl (MP.O hM) 8 (by decide) q609 (rfl) dX3_bestByAll_126 ?_
              refine g_iconst X dX3_bestByAll_129 ?_
              refine g_iload_n X dX3_bestByAll_130 rfl hl 3 rfl ?_
              refine g_iast X hk hS (MP.A0 hM (Or.inr rfl)) (j := 1) (n := 5) (f := (Ma 8)) (MP.I hM 8 rfl) (rfl) (by omega) dX3_bestByAll_131 (fun H locs hc_ hk hz_ ho_ hS => ?_)
              obtain ⟨M51, eM51⟩ : ∃ M_ : MS, M_ = mset Ma 8 1 (Mh 8 1) := ⟨_, rfl⟩
              have hM : MP E am M51 H := by rw [eM51]; exact MP.ast hM 8 rfl hc_ ho_
              have gM51 : ∀ f i, M51 f i = if f = 8 ∧ i = 1 then (Mh 8 1) else Ma f i := by intro f i; rw [eM51]; rfl
              have hMI : mI M51 := hMI.of (fun f i hf => by rw [gM51, if_neg (by omega)])
              refine g_aload_n X dX3_bestByAll_132 rfl hl 4 rfl ?_
              refine g_get X hk (v := .ref (am 8)) in_X3 rfl (MP.O hM) 8 (by decide) q609 (rfl) dX3_bestByAll_133 ?_
              refine g_iconst X dX3_bestByAll_136 ?_
              refine g_iload_n X dX3_bestByAll_137 rfl hl 2 rfl ?_
              refine g_iast X hk hS (MP.A0 hM (Or.inr rfl)) (j := 2) (n := 5) (f := (M51 8)) (MP.I hM 8 rfl) (rfl) (by omega) dX3_bestByAll_138 (fun H locs hc_ hk hz_ ho_ hS => ?_)
              obtain ⟨M52, eM52⟩ : ∃ M_ : MS, M_ = mset M51 8 2 (Mh 8 2) := ⟨_, rfl⟩
              have hM : MP E am M52 H := by rw [eM52]; exact MP.ast hM 8 rfl hc_ ho_
              have gM52 : ∀ f i, M52 f i = if f = 8 ∧ i = 2 then (Mh 8 2) else M51 f i := by intro f i; rw [eM52]; rfl
              have hMI : mI M52 := hMI.of (fun f i hf => by rw [gM52, if_neg (by omega)])
              have e140 : M52 = Mh := by funext f i; have h1 := gM52 f i; have h2 := gM51 f i; have h3 := qq f i; grind
              refine g_iload_n X dX3_bestByAll_139 rfl hl 1 rfl ?_
              exact g_iret X hS (⟨M52, hM, by rw [e140]; exact tMh, fun _ => by rw [show k = (baN S).toNat by omega], by rw [e140]; exact cMh⟩) ⟨Nat.le_of_ble_eq_true rfl, Nat.le_of_ble_eq_true rfl⟩ dX3_bestByAll_140
            · refine g_aload_n X dX3_bestByAll_74 rfl hl 4 rfl ?_
              refine g_get X hk (v := .ref (am 8)) in_X3 rfl (MP.O hM) 8 (by decide) q609 (rfl) dX3_bestByAll_75 ?_
              refine g_iconst X dX3_bestByAll_78 ?_
              refine g_iload X dX3_bestByAll_79 hl 0 rfl ?_
              refine g_aload_n X dX3_bestByAll_81 rfl hl 4 rfl ?_
              refine g_get X hk (v := .int (iI (gCyc Sa))) in_X3 rfl (MP.O hM) 2 (by decide) q603 (sI (MR.cyc hR)) dX3_bestByAll_82 ?_
              have hk71 : (k : Int) < baN S := by omega
              refine g_iremN X dX3_bestByAll_85 (by omega) ?_
              refine g_iast X hk hS (MP.A0 hM (Or.inr rfl)) (j := 1) (n := 5) (f := (Ma 8)) (MP.I hM 8 rfl) (rfl) (by omega) dX3_bestByAll_86 (fun H locs hc_ hk hz_ ho_ hS => ?_)
              obtain ⟨M53, eM53⟩ : ∃ M_ : MS, M_ = mset Ma 8 1 (((k : Nat) : Int) % (gCyc Sa)) := ⟨_, rfl⟩
              have hM : MP E am M53 H := by rw [eM53]; exact MP.ast hM 8 rfl hc_ ho_
              have gM53 : ∀ f i, M53 f i = if f = 8 ∧ i = 1 then (((k : Nat) : Int) % (gCyc Sa)) else Ma f i := by intro f i; rw [eM53]; rfl
              have hR : MR (gset Sa 14 1 0 (((k : Nat) : Int) % gCyc Sa)) M53 := by rw [eM53]; exact MR_off hR (by omega)
              have hMI : mI M53 := hMI.of (fun f i hf => by rw [gM53, if_neg (by omega)])
              refine g_aload_n X dX3_bestByAll_87 rfl hl 4 rfl ?_
              refine g_get X hk (v := .ref (am 8)) in_X3 rfl (MP.O hM) 8 (by decide) q609 (rfl) dX3_bestByAll_88 ?_
              refine g_iconst X dX3_bestByAll_91 ?_
              refine g_iload X dX3_bestByAll_92 hl 0 rfl ?_
              refine g_aload_n X dX3_bestByAll_94 rfl hl 4 rfl ?_
              refine g_get X hk (v := .int (iI (gCyc (gset Sa 14 1 0 (((k : Nat) : Int) % gCyc Sa))))) in_X3 rfl (MP.O hM) 2 (by decide) q603 (sI (MR.cyc hR)) dX3_bestByAll_95 ?_
              refine g_idivN X dX3_bestByAll_98 (by have : gCyc (gset Sa 14 1 0 (((k : Nat) : Int) % gCyc Sa)) = gCyc S := hcy; omega) ?_
              refine g_iast X hk hS (MP.A0 hM (Or.inr rfl)) (j := 2) (n := 5) (f := (M53 8)) (MP.I hM 8 rfl) (rfl) (by omega) dX3_bestByAll_99 (fun H locs hc_ hk hz_ ho_ hS => ?_)
              obtain ⟨M54, eM54⟩ : ∃ M_ : MS, M_ = mset M53 8 2 (((k : Nat) : Int) / (gCyc (gset Sa 14 1 0 (((k : Nat) : Int) % gCyc Sa)))) := ⟨_, rfl⟩
              have hM : MP E am M54 H := by rw [eM54]; exact MP.ast hM 8 rfl hc_ ho_
              have gM54 : ∀ f i, M54 f i = if f = 8 ∧ i = 2 then (((k : Nat) : Int) / (gCyc (gset Sa 14 1 0 (((k : Nat) : Int) % gCyc Sa)))) else M53 f i := by intro f i; rw [eM54]; rfl
              have e99 : ∀ f i, M54 f i = if f = 8 ∧ i = 2 then ((k : Nat) : Int) / gCyc S else if f = 8 ∧ i = 1 then ((k : Nat) : Int) % gCyc S else Mh f i := by intro f i; rw [gM54, gM53, show gCyc (gset Sa 14 1 0 (((k : Nat) : Int) % gCyc Sa)) = gCyc S from hcy, hcy]; grind
              have hR : MR (baS S k) M54 := MR_ba hI (by omega) hRh e99
              have q8 : m8 Mh M54 := fun f i hf => by rw [e99, if_neg (by omega), if_neg (by omega)]
              have qq : ∀ f i, ¬ (f = 8 ∧ (i = 1 ∨ i = 2)) → M54 f i = Mh f i := fun f i hf => by rw [e99, if_neg (by omega), if_neg (by omega)]
              have o8 : offE S (baS S k) := baS_off hI (by omega)
              have hI2 := o8.gI hI
              have hL2 := o8.hL hL
              have hPl2 := q8.pl o8 hPl
              have hb2 := bns_b hI2
              have hMI : mI M54 := hMI.of (fun f i hf => by rw [gM54, if_neg (by omega)])
              refine g_aload_n X dX3_bestByAll_100 rfl hl 4 rfl ?_
              refine g_pV X hk (As := []) (rest := []) rfl (MP.O hM) (m_bands l E am (baS S k) M54 H hM hI2 hR hMI hL2 hPl2) 0 (lw_V q775 q777 qs27 q48 q778) (by decide +kernel) ⟨⟨Nat.le_of_ble_eq_true rfl, Nat.le_of_ble_eq_true rfl⟩, Nat.le_of_ble_eq_true rfl, Nat.le_of_ble_eq_true rfl⟩ rfl rfl hl.1 (Nat.le_of_ble_eq_true rfl) dX3_bestByAll_101 ?_
              refine g_istore (lv' := [(5, .int (iI (bns (baS S k)))), (4, .int (iI ((k : Nat) : Int))), (3, .int (iI (baM S k))), (2, .int (iI (Mh 8 2))), (1, .int (iI (Mh 8 1))), (0, .ref (am 0))]) X dX3_bestByAll_104 hl (by decide) rfl (fun ls hl => ?_)
              have join_118 : gHide (∀ (z : Int) (ls : Array Slot), z = (baM S (k + 1)) → lv_has ls 6 [(5, .int (iI (bns (baS S k)))), (4, .int (iI ((k : Nat) : Int))), (3, .int (iI (baM S k))), (2, .int (iI (Mh 8 2))), (1, .int (iI (Mh 8 1))), (0, .ref (am 0))] → W P_ l e_ (gR 7 0 0) s M_ ([.ref (am 0)] : List Value).toArray bl mt_ c_ H locs 0 0 (MQ bl (gQi (mW am) (fun z H1 => ∃ M1, MP E am M1 H1 ∧ M1 0 0 = erA S ∧ (erA S = 0 → z = baM S (baN S).toNat) ∧ mQ M M1)) ([.ref (am 0)] : List Value).toArray s 0 0 (mW am)) (F0 M_ 118 ls [.int (iI z)])) := by
                intro z ls e_z hl
                subst e_z
                have hl : lv_has ls 6 [(5, .int (iI (bns (baS S k)))), (4, .int (iI ((k : Nat) : Int))), (3, .int (iI (baM S k))), (2, .int (iI (Mh 8 2))), (1, .int (iI (Mh 8 1))), (0, .ref (am 0))] := hl
                refine g_istore_n (lv' := [(3, .int (iI (baM S (k + 1)))), (5, .int (iI (bns (baS S k)))), (4, .int (iI ((k : Nat) : Int))), (2, .int (iI (Mh 8 2))), (1, .int (iI (Mh 8 1))), (0, .ref (am 0))]) X dX3_bestByAll_118 rfl hl (by decide) rfl (fun ls hl => ?_)
                refine g_iinc (lv' := [(4, .int (iI (((k : Nat) : Int) + 1))), (3, .int (iI (baM S (k + 1)))), (5, .int (iI (bns (baS S k)))), (2, .int (iI (Mh 8 2))), (1, .int (iI (Mh 8 1))), (0, .ref (am 0))]) X dX3_bestByAll_119 hl (k := 2) rfl (by decide) rfl (fun ls hl => ?_)
                refine g_goto X dX3_bestByAll_122 (tgt := 48) (by decide) ?_
                exact ih_48.out (k + 1) M54 (baS S k) (((k : Nat) : Int) + 1) (baM S (k + 1)) H locs (by omega) (by omega) (rfl) (by omega) o8 qq hR hMI hk hS hM _ (lv_sub hl [0, 1, 3, 4, 5] rfl)
              refine g_iload X dX3_bestByAll_106 hl 0 rfl ?_
              refine g_iload_n X dX3_bestByAll_108 rfl hl 2 rfl ?_
              refine g_icmp_le X dX3_bestByAll_109 (tgt := 117) (by decide) (by omega) (fun c109 => ?_) (fun c109 => ?_)
              · refine g_iload_n X dX3_bestByAll_117 rfl hl 2 rfl ?_
                exact join_118.out (baM S k) _ (by simp only [baM]; grind) (lv_sub hl [0, 1, 2, 3, 4, 5] rfl)
              · refine g_iload X dX3_bestByAll_112 hl 0 rfl ?_
                refine g_goto X dX3_bestByAll_114 (tgt := 118) (by decide) ?_
                exact join_118.out (bns (baS S k)) _ (by simp only [baM]; grind) (lv_sub hl [0, 1, 2, 3, 4, 5] rfl)
          refine g_aload_n X dX3_bestByAll_54 rfl hl 4 rfl ?_
          refine g_get X hk (v := .int (iI (((gN Sa) : Nat) : Int))) in_X3 rfl (MP.O hM) 1 (by decide) q602 (sI (MR.n hR)) dX3_bestByAll_55 ?_
          refine g_iconst X dX3_bestByAll_58 ?_
          refine g_icmp_ne X dX3_bestByAll_59 (tgt := 69) (by decide) (by omega) (fun c59 => ?_) (fun c59 => ?_)
          · refine g_iconst X dX3_bestByAll_69 ?_
            exact join_70.out 1 _ (by grind) (lv_sub hl [0, 1, 2, 3, 4] rfl)
          · refine g_aload_n X dX3_bestByAll_62 rfl hl 4 rfl ?_
            refine g_get X hk (v := .int (iI (gCyc Sa))) in_X3 rfl (MP.O hM) 2 (by decide) q603 (sI (MR.cyc hR)) dX3_bestByAll_63 ?_
            refine g_goto X dX3_bestByAll_66 (tgt := 70) (by decide) ?_
            exact join_70.out (gCyc Sa) _ (by grind) (lv_sub hl [0, 1, 2, 3, 4] rfl)
      exact loop_48.out ((baN S).toNat + 1) 0 Mh S 0 0 H locs (by omega) (rfl) (rfl) (by omega) (offE.rf hI) (fun _ _ _ => rfl) hR hMI hk hS hM _ (lv_sub hl [0, 1, 2, 3, 4] rfl)
    · refine g_iconst X dX3_bestByAll_27 ?_
      exact g_iret X hS (⟨M50, hM, tM50, fun h => absurd h (by grind [bZ]), (hQ).trans qM50⟩) ⟨Nat.le_of_ble_eq_true rfl, Nat.le_of_ble_eq_true rfl⟩ dX3_bestByAll_28
  refine g_aload_n X dX3_bestByAll_1 rfl hl 0 rfl ?_
  refine g_calli (g_runV X hk (As := []) (rest := [.ref (am 0)]) rfl (MP.O hM) (m_plansAll l E am S M s.heap hM hI hR) 0 (lw_V q751 q753 qs21 q48 q754) (by decide +kernel) ⟨⟨Nat.le_of_ble_eq_true rfl, Nat.le_of_ble_eq_true rfl⟩, Nat.le_of_ble_eq_true rfl, Nat.le_of_ble_eq_true rfl⟩ rfl rfl hl.1 (Nat.le_of_ble_eq_true rfl) dX3_bestByAll_2) hk hS (fun q h => h) (MP.N hM) (fun z_ H locs hP_ hk hz_ ho_ hS => ?_)
  obtain ⟨hz0_, hP_⟩ := hP_
  subst hz0_
  obtain ⟨M55, hM, xM55, pM55⟩ := hP_
  have qM55 := xM55.Q
  have tM55 := xM55.t
  have hR : MR S M55 := hR.Q qM55
  have hMI : mI M55 := hMI.Q qM55
  have hPl : ∀ j, j < gN S → mPl S M55 j := pM55
  have hap := bZ_le (alP S (gN S))
  refine g_if_eq X dX3_bestByAll_5 (tgt := 16) (by decide) (by omega) (fun c5 => ?_) (fun c5 => ?_)
  · refine g_iconst X dX3_bestByAll_16 ?_
    refine g_goto X dX3_bestByAll_17 (tgt := 21) (by decide) ?_
    exact join_21.out M55 1 H locs _ (by unfold erA; grind [bZ]) qM55 hR hMI hPl hk hS hM (lv_sub hl [0] rfl)
  · refine g_aload_n X dX3_bestByAll_8 rfl hl 0 rfl ?_
    refine g_get X hk (v := .int (iI (((gN S) : Nat) : Int))) in_X3 rfl (MP.O hM) 1 (by decide) q602 (sI (MR.n hR)) dX3_bestByAll_9 ?_
    refine g_iconst X dX3_bestByAll_12 ?_
    refine g_icmp_le X dX3_bestByAll_13 (tgt := 20) (by decide) (by omega) (fun c13 => ?_) (fun c13 => ?_)
    · refine g_iconst X dX3_bestByAll_20 ?_
      exact join_21.out M55 0 H locs _ (by unfold erA; grind [bZ]) qM55 hR hMI hPl hk hS hM (lv_sub hl [0] rfl)
    · refine g_iconst X dX3_bestByAll_16 ?_
      refine g_goto X dX3_bestByAll_17 (tgt := 21) (by decide) ?_
      exact join_21.out M55 1 H locs _ (by unfold erA; grind [bZ]) qM55 hR hMI hPl hk hS hM (lv_sub hl [0] rfl)
