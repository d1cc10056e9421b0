/-! the reference runs -/
set_option maxHeartbeats 4000000 in
theorem m_run (l : Launch) (E : EP) (am : Nat → Nat) (S : GS) (M : MS) (H : Heap) (hM : MP E am M H) (hI : gI S) (hR : MR S M) (hMI : mI M) (hMD : MD 0 S M) (hMC : MC S M) (t : Int) (ht : -2147483648 ≤ t ∧ t ≤ 2147483647) : gMi l E yX3_run cX3_run 5 .int 5 0 0 H [.ref (am 0), .int (iI t)] (mW am) (fun z H1 => ∃ M1, MP E am M1 H1 ∧ M1 0 0 = erR S t ∧ (erR S t = 0 → z = gLef (sRun (gset S 33 0 0 1) t.toNat) - gLef S ∧ RG 0 (gset S 33 0 0 1) (sRun (gset S 33 0 0 1) t.toNat) M1) ∧ (¬ erR S t = 0 → mQ M M1)) := by
  refine g_met (plainFor_of_name (by decide)) (Nat.le_of_ble_eq_true rfl) (fun P_ e_ s M_ bl mt_ c_ ls X hmeth_ hk hh hl => ?_)
  subst hh
  have X : gX P_ s M_ mt_ c_ cX3_run 5 ([.ref (am 0), .int (iI t)] : List Value).toArray RX3 (some .int) := X
  have hl : lv_has ls 5 [(0, .ref (am 0)), (1, .int (iI t))] := hl
  have hS : va_S (mW am) s.heap s.heap [] := va_S.rf
  have hn5 := hI.1.1
  have hnow := hI.1.2.2
  have hrun := hI.1.2.1
  have her : 0 ≤ erR S t ∧ erR S t ≤ 2 := by unfold erR; grind
  have hR0 := hR
  have hMI0 := hMI
  have hI1 : gI (gset S 33 0 0 1) := by have e : gI (gset S 33 0 0 1) := ⟨⟨hI.1.1, by show 0 ≤ gRun (gset S 33 0 0 1) ∧ gRun (gset S 33 0 0 1) ≤ 1; rw [show gRun (gset S 33 0 0 1) = 1 from gset_s S 33 0 0 1]; omega, hI.1.2.2⟩, hI.2.1, hI.2.2⟩; exact e
  refine g_aload_n X dX3_run_0 rfl hl 0 rfl ?_
  have join_40 : gHide (∀ (Mx : MS) (z : Int) (H : Heap) (locs : List Loc) (ls : Array Slot), z = (erR S t) → (mQ M Mx) → (MR S Mx) → (mI Mx) → (erR S t = 0 → ∀ j, j < gN S → mPl S Mx j) → (kk E s H) → (va_S (mW am) s.heap H locs) → (MP E am Mx H) → lv_has ls 5 [(0, .ref (am 0)), (1, .int (iI t))] → W P_ l e_ (gR 5 0 0) s M_ ([.ref (am 0), .int (iI t)] : List Value).toArray bl mt_ c_ H locs 0 0 (MQ bl (gQi (mW am) (fun z H1 => ∃ M1, MP E am M1 H1 ∧ M1 0 0 = erR S t ∧ (erR S t = 0 → z = gLef (sRun (gset S 33 0 0 1) t.toNat) - gLef S ∧ RG 0 (gset S 33 0 0 1) (sRun (gset S 33 0 0 1) t.toNat) M1) ∧ (¬ erR S t = 0 → mQ M M1))) ([.ref (am 0), .int (iI t)] : List Value).toArray s 0 0 (mW am)) (F0 M_ 40 ls [.int (iI z), .ref (am 0)])) := by
    intro Mx z H locs ls e_z hQ hR hMI hP9 hk hS hM hl
    subst e_z
    have hl : lv_has ls 5 [(0, .ref (am 0)), (1, .int (iI t))] := hl
    refine g_calli (g_runV X hk (As := [.int (iI (erR S t))]) (rest := []) rfl (MP.O hM) (m_holds l E am Mx H hM (erR S t) (by omega)) 1 (lw_V q694 q696 qs15 q48 q697) (by decide +kernel) ⟨⟨Nat.le_of_ble_eq_true rfl, Nat.le_of_ble_eq_true rfl⟩, Nat.le_of_ble_eq_true rfl, Nat.le_of_ble_eq_true rfl⟩ rfl rfl hl.1 (Nat.le_of_ble_eq_true rfl) dX3_run_40) hk hS (fun q h => h) (MP.N hM) (fun z_ H locs hP_ hk hz_ ho_ hS => ?_)
    obtain ⟨hz0_, hM⟩ := hP_
    subst hz0_
    obtain ⟨M74, eM74⟩ : ∃ M_ : MS, M_ = mset Mx 0 0 (erR S t) := ⟨_, rfl⟩
    rw [← eM74] at hM
    have qM74 : mQ Mx M74 := by rw [eM74]; exact mset_Q Mx (Or.inl rfl)
    have tM74 : M74 0 0 = (erR S t) := by rw [eM74]; exact mset_s _ _ _ _
    have zM74 : ∀ f i, f ≠ 0 → M74 f i = Mx f i := fun f i hf => by rw [eM74]; exact mset_n _ _ (fun e => hf e.1)
    have hR : MR S M74 := hR.Q qM74
    have hMI : mI M74 := hMI.Q qM74
    have hz9 := bZ_le (decide (erR S t = 0))
    refine g_if_ne X dX3_run_43 (tgt := 48) (by decide) (by omega) (fun c43 => ?_) (fun c43 => ?_)
    · have hz : erR S t = 0 := by grind [bZ]
      have hL : ∀ j, j < gN S → 0 ≤ lft S j := (alP_iff S (gN S)).mp (by revert hz; unfold erR; grind)
      have ht : (1 ≤ t ∧ t ≤ 600) ∧ gNow S + t ≤ 7200 := by revert hz; unfold erR; grind
      have hPl : ∀ j, j < gN S → mPl S M74 j := fun j hj => (hP9 hz j hj).Z zM74
      have qh : mQ M M74 := (hQ).trans qM74
      have th : M74 0 0 = erR S t := tM74
      refine g_aload_n X dX3_run_48 rfl hl 0 rfl ?_
      refine g_iconst X dX3_run_49 ?_
      refine g_put X hk hS (MP.A0 hM (Or.inl rfl)) in_X3 tyX3 tyX3_ok nmX3 rfl (MP.O hM) 3 (by decide) q604 rfl (ty := .boolean) (by decide +kernel) (iI_narB _ (by omega)) rfl (Nat.le_of_ble_eq_true rfl) dX3_run_50 (fun H locs hc_ hk hz_ ho_ hS => ?_)
      obtain ⟨M75, eM75⟩ : ∃ M_ : MS, M_ = mset M74 3 0 1 := ⟨_, rfl⟩
      have hM : MP E am M75 H := by rw [eM75]; exact MP.put hM 3 rfl hc_ ho_
      have gM75 : ∀ f i, M75 f i = if f = 3 ∧ i = 0 then 1 else M74 f i := by intro f i; rw [eM75]; rfl
      have hR : MR (gset S 33 0 0 1) M75 := by rw [eM75]; exact MR_run hR
      have hG0 : RG 0 (gset S 33 0 0 1) (gset S 33 0 0 1) M75 := by rw [eM75]; exact RG_0 hI hR0 hMD hMC hMI0 hPl qh
      have tz : M75 0 0 = erR S t := by rw [gM75, if_neg (by omega)]; exact th
      have hL1 : ∀ j, j < gN S → 0 ≤ lft (gset S 33 0 0 1) j := fun j hj => by rw [pl_lft (plE_run S 1 j)]; exact hL j hj
      have hlef : M75 17 0 = gLef S := hG0.2.2.2.1.1.1.2.2.2
      refine g_aload_n X dX3_run_53 rfl hl 0 rfl ?_
      refine g_get X hk (v := .int (iI (M75 17 0))) in_X3 rfl (MP.O hM) 17 (by decide) q618 (rfl) dX3_run_54 ?_
      rw [show (M75 17 0) = gLef S from hlef]
      refine g_istore_n (lv' := [(2, .int (iI (gLef S))), (0, .ref (am 0)), (1, .int (iI t))]) X dX3_run_57 rfl hl (by decide) rfl (fun ls hl => ?_)
      refine g_iconst X dX3_run_58 ?_
      refine g_istore_n (lv' := [(3, .int (iI 0)), (2, .int (iI (gLef S))), (0, .ref (am 0)), (1, .int (iI t))]) X dX3_run_59 rfl hl (by decide) rfl (fun ls hl => ?_)
      have loop_60 : gHide (∀ (n_ : Nat) (k : Nat) (Ma : MS) (v3 : Int) (H : Heap) (locs : List Loc), t.toNat + 1 ≤ k + n_ → v3 = ((k : Nat) : Int) → ((k : Int) ≤ t) → (RG 0 (gset S 33 0 0 1) (sRun (gset S 33 0 0 1) k) Ma) → (Ma 0 0 = erR S t) → (kk E s H) → (va_S (mW am) s.heap H locs) → (MP E am Ma H) → ∀ (ls : Array Slot), lv_has ls 5 [(3, .int (iI v3)), (2, .int (iI (gLef S))), (0, .ref (am 0)), (1, .int (iI t))] → W P_ l e_ (gR 5 0 0) s M_ ([.ref (am 0), .int (iI t)] : List Value).toArray bl mt_ c_ H locs 0 0 (MQ bl (gQi (mW am) (fun z H1 => ∃ M1, MP E am M1 H1 ∧ M1 0 0 = erR S t ∧ (erR S t = 0 → z = gLef (sRun (gset S 33 0 0 1) t.toNat) - gLef S ∧ RG 0 (gset S 33 0 0 1) (sRun (gset S 33 0 0 1) t.toNat) M1) ∧ (¬ erR S t = 0 → mQ M M1))) ([.ref (am 0), .int (iI t)] : List Value).toArray s 0 0 (mW am)) (F0 M_ 60 ls [])) := by
        intro n_
        induction n_ with
        | zero => intro k Ma v3 H locs hb_ e_v3 hkb hG ht0 hk hS hM ls hl; exact absurd hb_ (by omega)
        | succ n_ ih_60 =>
          replace ih_60 := gHide.mk ih_60
          intro k Ma v3 H locs hb_ e_v3 hkb hG ht0 hk hS hM ls hl
          subst e_v3
          have hl : lv_has ls 5 [(3, .int (iI ((k : Nat) : Int))), (2, .int (iI (gLef S))), (0, .ref (am 0)), (1, .int (iI t))] := hl
          have hGk := hG
          obtain ⟨hdE, hnb, hR, hMD, hMC, hMI, hPl⟩ := hG
          have hIa := hdE.gI hI1 hnb
          have hnE := hdE.n
          have hn0 : gN (gset S 33 0 0 1) = gN S := rfl
          refine g_iload_n X dX3_run_60 rfl hl 0 rfl ?_
          refine g_iload_n X dX3_run_61 rfl hl 3 rfl ?_
          have hkt : (k : Int) ≤ t := hkb
          refine g_icmp_ge X dX3_run_62 (tgt := 123) (by decide) (by omega) (fun c62 => ?_) (fun c62 => ?_)
          · refine g_aload_n X dX3_run_123 rfl hl 2 rfl ?_
            refine g_get X hk (v := .int (iI (Ma 17 0))) in_X3 rfl (MP.O hM) 17 (by decide) q618 (rfl) dX3_run_124 ?_
            refine g_iload_n X dX3_run_127 rfl hl 1 rfl ?_
            refine g_isub X dX3_run_128 ?_
            exact g_iret X hS (⟨Ma, hM, ht0, fun _ => by rw [show t.toNat = k by omega]; exact ⟨by rw [hMD.1.1.2.2.2], hGk⟩, fun h => absurd hz h⟩) ⟨Nat.le_of_ble_eq_true rfl, Nat.le_of_ble_eq_true rfl⟩ dX3_run_129
          · refine g_iconst X dX3_run_65 ?_
            refine g_istore (lv' := [(4, .int (iI 0)), (3, .int (iI ((k : Nat) : Int))), (2, .int (iI (gLef S))), (0, .ref (am 0)), (1, .int (iI t))]) X dX3_run_66 hl (by decide) rfl (fun ls hl => ?_)
            have loop_68 : gHide (∀ (n_ : Nat) (j : Nat) (Mb : MS) (v4 : Int) (H : Heap) (locs : List Loc), gN S + 1 ≤ j + n_ → v4 = ((j : Nat) : Int) → (j ≤ gN S) → (RG j (gset S 33 0 0 1) (sK (sRun (gset S 33 0 0 1) k) j) Mb) → (Mb 0 0 = erR S t) → (kk E s H) → (va_S (mW am) s.heap H locs) → (MP E am Mb H) → ∀ (ls : Array Slot), lv_has ls 5 [(4, .int (iI v4)), (3, .int (iI ((k : Nat) : Int))), (2, .int (iI (gLef S))), (0, .ref (am 0)), (1, .int (iI t))] → W P_ l e_ (gR 5 0 0) s M_ ([.ref (am 0), .int (iI t)] : List Value).toArray bl mt_ c_ H locs 0 0 (MQ bl (gQi (mW am) (fun z H1 => ∃ M1, MP E am M1 H1 ∧ M1 0 0 = erR S t ∧ (erR S t = 0 → z = gLef (sRun (gset S 33 0 0 1) t.toNat) - gLef S ∧ RG 0 (gset S 33 0 0 1) (sRun (gset S 33 0 0 1) t.toNat) M1) ∧ (¬ erR S t = 0 → mQ M M1))) ([.ref (am 0), .int (iI t)] : List Value).toArray s 0 0 (mW am)) (F0 M_ 68 ls [])) := by
              intro n_
              induction n_ with
              | zero => intro j Mb v4 H locs hb_ e_v4 hjb hG ht0 hk hS hM ls hl; exact absurd hb_ (by omega)
              | succ n_ ih_68 =>
                replace ih_68 := gHide.mk ih_68
                intro j Mb v4 H locs hb_ e_v4 hjb hG ht0 hk hS hM ls hl
                subst e_v4
                have hl : lv_has ls 5 [(4, .int (iI ((j : Nat) : Int))), (3, .int (iI ((k : Nat) : Int))), (2, .int (iI (gLef S))), (0, .ref (am 0)), (1, .int (iI t))] := hl
                have hGa := hG
                obtain ⟨hdE, hnb, hR, hMD, hMC, hMI, hPl⟩ := hG
                have hIa := hdE.gI hI1 hnb
                have hnE := hdE.n
                have hn0 : gN (gset S 33 0 0 1) = gN S := rfl
                refine g_iload X dX3_run_68 hl 0 rfl ?_
                refine g_aload_n X dX3_run_70 rfl hl 3 rfl ?_
                refine g_get X hk (v := .int (iI (((gN (sK (sRun (gset S 33 0 0 1) k) j)) : Nat) : Int))) in_X3 rfl (MP.O hM) 1 (by decide) q602 (sI (MR.n hR)) dX3_run_71 ?_
                refine g_icmp_ge X dX3_run_74 (tgt := 107) (by decide) (by omega) (fun c74 => ?_) (fun c74 => ?_)
                · have ej : j = gN S := by omega
                  have hnk : gNow (sK (sRun (gset S 33 0 0 1) k) j) = gNow S + (k : Int) := by rw [sK_now, sRun_now]; rfl
                  refine g_aload_n X dX3_run_107 rfl hl 3 rfl ?_
                  refine g_dup X dX3_run_108 rfl ?_
                  refine g_get X hk (v := .int (iI (gNow (sK (sRun (gset S 33 0 0 1) k) j)))) in_X3 rfl (MP.O hM) 14 (by decide) q615 (sI (MR.now hR)) dX3_run_109 ?_
                  refine g_iconst X dX3_run_112 ?_
                  refine g_iadd X dX3_run_113 ?_
                  refine g_put X hk hS (MP.A0 hM (Or.inl rfl)) in_X3 tyX3 tyX3_ok nmX3 rfl (MP.O hM) 14 (by decide) q615 rfl (ty := .int) (by decide +kernel) (rfl) rfl (Nat.le_of_ble_eq_true rfl) dX3_run_114 (fun H locs hc_ hk hz_ ho_ hS => ?_)
                  obtain ⟨M76, eM76⟩ : ∃ M_ : MS, M_ = mset Mb 14 0 ((gNow (sK (sRun (gset S 33 0 0 1) k) j)) + 1) := ⟨_, rfl⟩
                  have hM : MP E am M76 H := by rw [eM76]; exact MP.put hM 14 rfl hc_ ho_
                  have gM76 : ∀ f i, M76 f i = if f = 14 ∧ i = 0 then ((gNow (sK (sRun (gset S 33 0 0 1) k) j)) + 1) else Mb f i := by intro f i; rw [eM76]; rfl
                  have e8 : gN (sRun (gset S 33 0 0 1) k) = j := by rw [(sRun_dy (gset S 33 0 0 1) k).n]; exact ej.symm
                  have e9 : sRun (gset S 33 0 0 1) (k + 1) = gset (sK (sRun (gset S 33 0 0 1) k) j) 32 0 0 (gNow (sK (sRun (gset S 33 0 0 1) k) j) + 1) := by
                    show gset (sK (sRun (gset S 33 0 0 1) k) (gN (sRun (gset S 33 0 0 1) k))) 32 0 0 (gNow (sK (sRun (gset S 33 0 0 1) k) (gN (sRun (gset S 33 0 0 1) k))) + 1) = _
                    rw [e8]
                  have hG4 : RG 0 (gset S 33 0 0 1) (sRun (gset S 33 0 0 1) (k + 1)) M76 := by rw [e9]; exact RG.now hI1 (show j = gN S from ej) hGa (by omega) gM76
                  have tM76 : M76 0 0 = erR S t := by rw [gM76, if_neg (by omega)]; exact ht0
                  have hMI : mI M76 := hMI.of (fun f i hf => by rw [gM76, if_neg (by omega)])
                  refine g_iinc (lv' := [(3, .int (iI (((k : Nat) : Int) + 1))), (4, .int (iI ((j : Nat) : Int))), (2, .int (iI (gLef S))), (0, .ref (am 0)), (1, .int (iI t))]) X dX3_run_117 hl (k := 1) rfl (by decide) rfl (fun ls hl => ?_)
                  refine g_goto X dX3_run_120 (tgt := 60) (by decide) ?_
                  exact ih_60.out (k + 1) M76 (((k : Nat) : Int) + 1) H locs (by omega) (by omega) (by omega) hG4 tM76 hk hS hM _ (lv_sub hl [0, 2, 3, 4] rfl)
                · have hjn : j < gN S := by omega
                  refine g_iload X dX3_run_77 hl 0 rfl ?_
                  have join_95 : gHide (∀ (Mx : MS) (H : Heap) (locs : List Loc) (ls : Array Slot), (RG (j + 1) (gset S 33 0 0 1) (sHead (sK (sRun (gset S 33 0 0 1) k) j) j) Mx) → (Mx 0 0 = erR S t) → (kk E s H) → (va_S (mW am) s.heap H locs) → (MP E am Mx H) → lv_has ls 5 [(4, .int (iI ((j : Nat) : Int))), (3, .int (iI ((k : Nat) : Int))), (2, .int (iI (gLef S))), (0, .ref (am 0)), (1, .int (iI t))] → W P_ l e_ (gR 5 0 0) s M_ ([.ref (am 0), .int (iI t)] : List Value).toArray bl mt_ c_ H locs 0 0 (MQ bl (gQi (mW am) (fun z H1 => ∃ M1, MP E am M1 H1 ∧ M1 0 0 = erR S t ∧ (erR S t = 0 → z = gLef (sRun (gset S 33 0 0 1) t.toNat) - gLef S ∧ RG 0 (gset S 33 0 0 1) (sRun (gset S 33 0 0 1) t.toNat) M1) ∧ (¬ erR S t = 0 → mQ M M1))) ([.ref (am 0), .int (iI t)] : List Value).toArray s 0 0 (mW am)) (F0 M_ 95 ls [])) := by
                    intro Mx H locs ls hG2 ht0 hk hS hM hl
                    have hl : lv_has ls 5 [(4, .int (iI ((j : Nat) : Int))), (3, .int (iI ((k : Nat) : Int))), (2, .int (iI (gLef S))), (0, .ref (am 0)), (1, .int (iI t))] := hl
                    refine g_aload_n X dX3_run_95 rfl hl 3 rfl ?_
                    refine g_iload X dX3_run_96 hl 0 rfl ?_
                    obtain ⟨hdE, hnb, hR, hMD, hMC, hMI, hPl⟩ := hG2
                    have hG2 : RG (j + 1) (gset S 33 0 0 1) (sHead (sK (sRun (gset S 33 0 0 1) k) j) j) Mx := ⟨hdE, hnb, hR, hMD, hMC, hMI, hPl⟩
                    have hIb := hdE.gI hI1 hnb
                    have hnEb : gN (sHead (sK (sRun (gset S 33 0 0 1) k) j) j) = gN S := hdE.n
                    have hqb : ∀ i, i < gN (sHead (sK (sRun (gset S 33 0 0 1) k) j) j) → 0 ≤ Mx 18 i ∧ Mx 18 i ≤ 100000 := by
                      intro i hi
                      have h1 := hMD.2.1 i hi
                      rw [h1.1]
                      refine ⟨h1.2.2.2, ?_⟩
                      by_cases hi0 : i = 0
                      · subst hi0
                        have h2 := hMD.1.2.1
                        rw [if_pos (by omega)] at h2
                        omega
                      · have h2 := (hMD.2.2 (i - 1) (by omega)).2.1
                        have h3 := (hIb.2.2 (i - 1) (by omega)).2.2.2.2.2.2.1
                        rw [show i - 1 + 1 = i by omega] at h2
                        omega
                    have h20b : j + 1 < gN (sHead (sK (sRun (gset S 33 0 0 1) k) j) j) → 0 ≤ Mx 20 j ∧ Mx 20 j + Mx 18 (j + 1) ≤ gRoo (sHead (sK (sRun (gset S 33 0 0 1) k) j) j) j := by
                      intro hj1
                      have h1 := hMD.2.2 j hj1
                      have h2 := hMD.2.1 (j + 1) hj1
                      rw [h1.1, h2.1]
                      exact h1.2.1
                    have hjb := hMD.2.1 j (show j < gN (sHead (sK (sRun (gset S 33 0 0 1) k) j) j) by omega)
                    have hLb : 0 ≤ lft (sHead (sK (sRun (gset S 33 0 0 1) k) j) j) j := by rw [dy_lft hdE]; exact hL1 j (by omega)
                    have hPb : mPl (sHead (sK (sRun (gset S 33 0 0 1) k) j) j) Mx j := hdE.pl (hPl j (by show j < gN S; omega))
                    refine g_callv (g_runV X hk (As := [.int (iI ((j : Nat) : Int))]) (rest := []) rfl (MP.O hM) (m_leaves l E am (sHead (sK (sRun (gset S 33 0 0 1) k) j) j) Mx H hM hIb hR j (by omega) hMI hLb hPb (by rw [hjb.2.1]; exact hjb.2.2.1) hqb h20b) 1 (lw_V q864 q866 qs39 q48 q867) (by decide +kernel) ⟨⟨Nat.le_of_ble_eq_true rfl, Nat.le_of_ble_eq_true rfl⟩, Nat.le_of_ble_eq_true rfl, Nat.le_of_ble_eq_true rfl⟩ rfl rfl hl.1 (Nat.le_of_ble_eq_true rfl) dX3_run_98) hk hS (fun q h => h) (MP.N hM) (fun H locs hP_ hk hz_ ho_ hS => ?_)
                    obtain ⟨M77, hM, eM77⟩ := hP_
                    have hG3 : RG (j + 1) (gset S 33 0 0 1) (sOne (sHead (sK (sRun (gset S 33 0 0 1) k) j) j) j) M77 := RG.lv hI1 (show j < gN S by omega) hG2 eM77
                    have tM77 : M77 0 0 = erR S t := by rw [eM77]; exact ht0
                    refine g_iinc (lv' := [(4, .int (iI (((j : Nat) : Int) + 1))), (3, .int (iI ((k : Nat) : Int))), (2, .int (iI (gLef S))), (0, .ref (am 0)), (1, .int (iI t))]) X dX3_run_101 hl (k := 0) rfl (by decide) rfl (fun ls hl => ?_)
                    refine g_goto X dX3_run_104 (tgt := 68) (by decide) ?_
                    exact ih_68.out (j + 1) M77 (((j : Nat) : Int) + 1) H locs (by omega) (by omega) (by omega) hG3 tM77 hk hS hM _ (lv_sub hl [0, 1, 2, 3, 4] rfl)
                  refine g_if_ne X dX3_run_79 (tgt := 89) (by decide) (by omega) (fun c79 => ?_) (fun c79 => ?_)
                  · have k79 : ¬ j = 0 := by omega
                    have hnj : j < gN S := by omega
                    refine g_aload_n X dX3_run_89 rfl hl 3 rfl ?_
                    refine g_iload X dX3_run_90 hl 0 rfl ?_
                    obtain ⟨L_, hjL⟩ : ∃ L_, j = L_ + 1 := ⟨j - 1, by omega⟩
                    have hLk := hMD.2.2 L_ (by omega)
                    have hLt := hLk.2.1
                    have hLq := (hMD.2.1 (L_ + 1) (by omega)).2.2.2
                    have hLr := (hIa.2.2 L_ (by omega)).2.2.2.2.2.2.1
                    have hLl := (hIa.2.2 L_ (by omega)).2.2.2.2.2.1
                    obtain ⟨T_, hT0_⟩ : ∃ T_ : Nat, gTrv (sK (sRun (gset S 33 0 0 1) k) j) L_ = (T_ : Int) := ⟨(gTrv (sK (sRun (gset S 33 0 0 1) k) j) L_).toNat, by omega⟩
                    have hT_ : Mb 20 L_ = (T_ : Int) := hLk.1.trans hT0_
                    have hT40 : T_ ≤ 40 := by omega
                    have hTb : ∀ k_, k_ < T_ → -1000000 ≤ Mb 21 (40 * L_ + k_) ∧ Mb 21 (40 * L_ + k_) ≤ 1000000 := by
                      intro k_ hk_
                      have h1 := hLk.2.2.1 k_ (by omega)
                      have h2 : mdE Mb L_ k_ = Mb 21 (40 * L_ + k_) := rfl
                      rw [h2, if_neg (by omega)] at h1
                      omega
                    have hcj_ := m_joins l E am (sK (sRun (gset S 33 0 0 1) k) j) Mb H hM hIa hR L_ T_ (by omega) hT_ hT40 hTb
                    rw [← hjL] at hcj_
                    refine g_callv (g_runV X hk (As := [.int (iI ((j : Nat) : Int))]) (rest := []) rfl (MP.O hM) (hcj_) 1 (lw_V q860 q862 qs38 q48 q863) (by decide +kernel) ⟨⟨Nat.le_of_ble_eq_true rfl, Nat.le_of_ble_eq_true rfl⟩, Nat.le_of_ble_eq_true rfl, Nat.le_of_ble_eq_true rfl⟩ rfl rfl hl.1 (Nat.le_of_ble_eq_true rfl) dX3_run_92) hk hS (fun q h => h) (MP.N hM) (fun H locs hP_ hk hz_ ho_ hS => ?_)
                    obtain ⟨M78, r_, hM, eM78, er_⟩ := hP_
                    have hG2 : RG (j + 1) (gset S 33 0 0 1) (sHead (sK (sRun (gset S 33 0 0 1) k) j) j) M78 := RG.jo2 hI1 hjL (show L_ + 1 < gN S by omega) hGa hT_ eM78 er_
                    have tM78 : M78 0 0 = erR S t := (eM78.2.2.2.2.2 0 0 (by omega) (by omega) (by omega)).trans ht0
                    exact join_95.out M78 H locs _ hG2 tM78 hk hS hM (lv_sub hl [0, 1, 2, 3, 4] rfl)
                  · have k79 : j = 0 := by omega
                    refine g_aload_n X dX3_run_82 rfl hl 3 rfl ?_
                    refine g_callv (g_runV X hk (As := []) (rest := []) rfl (MP.O hM) (m_arrives l E am (sK (sRun (gset S 33 0 0 1) k) j) Mb H hM hIa hR (by have h1 := hMD.1.1.1; have h2 := hMD.1.1.2.1; omega)) 0 (lw_V q856 q858 qs37 q48 q859) (by decide +kernel) ⟨⟨Nat.le_of_ble_eq_true rfl, Nat.le_of_ble_eq_true rfl⟩, Nat.le_of_ble_eq_true rfl, Nat.le_of_ble_eq_true rfl⟩ rfl rfl hl.1 (Nat.le_of_ble_eq_true rfl) dX3_run_83) hk hS (fun q h => h) (MP.N hM) (fun H locs hP_ hk hz_ ho_ hS => ?_)
                    obtain ⟨M79, hM, eM79⟩ := hP_
                    have hG2 : RG (j + 1) (gset S 33 0 0 1) (sHead (sK (sRun (gset S 33 0 0 1) k) j) j) M79 := RG.ar2 hI1 k79 hGa eM79
                    have tM79 : M79 0 0 = erR S t := by rw [eM79]; exact ht0
                    refine g_goto X dX3_run_86 (tgt := 95) (by decide) ?_
                    exact join_95.out M79 H locs _ hG2 tM79 hk hS hM (lv_sub hl [0, 1, 2, 3, 4] rfl)
            exact loop_68.out (gN S + 1) 0 Ma 0 H locs (by omega) (rfl) (by omega) hGk ht0 hk hS hM _ (lv_sub hl [0, 1, 2, 3, 4] rfl)
      exact loop_60.out (t.toNat + 1) 0 M75 0 H locs (by omega) (rfl) (by omega) hG0 tz hk hS hM _ (lv_sub hl [0, 1, 2, 3] rfl)
    · refine g_iconst X dX3_run_46 ?_
      exact g_iret X hS (⟨M74, hM, tM74, fun h => absurd h (by grind [bZ]), fun _ => (hQ).trans qM74⟩) ⟨Nat.le_of_ble_eq_true rfl, Nat.le_of_ble_eq_true rfl⟩ dX3_run_47
  refine g_iload_n X dX3_run_1 rfl hl 1 rfl ?_
  refine g_iconst X dX3_run_2 ?_
  refine g_sipush X dX3_run_3 rfl ?_
  refine g_pS X hk (As := [.int (iI t), .int (iI 1), .int (iI 600)]) (rest := [.ref (am 0)]) (m_in l E t 1 600 s.heap (by omega) (by omega) (by omega)) 3 (lw_S q691 q692 q48 q693) (by decide +kernel) ⟨⟨Nat.le_of_ble_eq_true rfl, Nat.le_of_ble_eq_true rfl⟩, Nat.le_of_ble_eq_true rfl, Nat.le_of_ble_eq_true rfl⟩ rfl rfl hl.1 (Nat.le_of_ble_eq_true rfl) dX3_run_6 ?_
  have h9 := bZ_le (decide (1 ≤ t ∧ t ≤ 600))
  refine g_if_ne X dX3_run_9 (tgt := 16) (by decide) (by omega) (fun c9 => ?_) (fun c9 => ?_)
  · have h16 : 1 ≤ t ∧ t ≤ 600 := by grind [bZ]
    refine g_aload_n X dX3_run_16 rfl hl 0 rfl ?_
    refine g_calli (g_runV X hk (As := []) (rest := [.ref (am 0)]) rfl (MP.O hM) (m_plansAll l E am S M s.heap hM hI hR) 0 (lw_V q751 q753 qs21 q48 q754) (by decide +kernel) ⟨⟨Nat.le_of_ble_eq_true rfl, Nat.le_of_ble_eq_true rfl⟩, Nat.le_of_ble_eq_true rfl, Nat.le_of_ble_eq_true rfl⟩ rfl rfl hl.1 (Nat.le_of_ble_eq_true rfl) dX3_run_17) hk hS (fun q h => h) (MP.N hM) (fun z_ H locs hP_ hk hz_ ho_ hS => ?_)
    obtain ⟨hz0_, hP_⟩ := hP_
    subst hz0_
    obtain ⟨M80, hM, xM80, pM80⟩ := hP_
    have qM80 := xM80.Q
    have tM80 := xM80.t
    have hR : MR S M80 := hR.Q qM80
    have hMI : mI M80 := hMI.Q qM80
    have hPl : ∀ j, j < gN S → mPl S M80 j := pM80
    have hap := bZ_le (alP S (gN S))
    refine g_if_eq X dX3_run_20 (tgt := 35) (by decide) (by omega) (fun c20 => ?_) (fun c20 => ?_)
    · refine g_iconst X dX3_run_35 ?_
      refine g_goto X dX3_run_36 (tgt := 40) (by decide) ?_
      exact join_40.out M80 2 H locs _ (by unfold erR; grind [bZ]) qM80 hR hMI (fun h => by first | exact hPl | (exfalso; revert h; unfold erR; grind [bZ])) hk hS hM (lv_sub hl [0, 1] rfl)
    · refine g_aload_n X dX3_run_23 rfl hl 0 rfl ?_
      refine g_get X hk (v := .int (iI (gNow S))) in_X3 rfl (MP.O hM) 14 (by decide) q615 (sI (MR.now hR)) dX3_run_24 ?_
      refine g_iload_n X dX3_run_27 rfl hl 1 rfl ?_
      refine g_iadd X dX3_run_28 ?_
      refine g_sipush X dX3_run_29 rfl ?_
      refine g_icmp_le X dX3_run_32 (tgt := 39) (by decide) (by omega) (fun c32 => ?_) (fun c32 => ?_)
      · refine g_iconst X dX3_run_39 ?_
        exact join_40.out M80 0 H locs _ (by unfold erR; grind [bZ]) qM80 hR hMI (fun h => by first | exact hPl | (exfalso; revert h; unfold erR; grind [bZ])) hk hS hM (lv_sub hl [0, 1] rfl)
      · refine g_iconst X dX3_run_35 ?_
        refine g_goto X dX3_run_36 (tgt := 40) (by decide) ?_
        exact join_40.out M80 2 H locs _ (by unfold erR; grind [bZ]) qM80 hR hMI (fun h => by first | exact hPl | (exfalso; revert h; unfold erR; grind [bZ])) hk hS hM (lv_sub hl [0, 1] rfl)
  · refine g_iconst X dX3_run_12 ?_
    refine g_goto X dX3_run_13 (tgt := 40) (by decide) ?_
    exact join_40.out M 1 s.heap [] _ (by unfold erR; grind [bZ]) (mQ.rf M) hR hMI (fun h => by first | exact hPl | (exfalso; revert h; unfold erR; grind [bZ])) hk hS hM (lv_sub hl [0, 1] rfl)
