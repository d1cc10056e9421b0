/-! the reference: holds, plans -/
set_option maxHeartbeats 4000000 in
theorem m_holds (l : Launch) (E : EP) (am : Nat → Nat) (M : MS) (H : Heap) (hM : MP E am M H) (v : Int) (hv : -2147483648 ≤ v ∧ v ≤ 2147483647) : gMi l E yX3_holds cX3_holds 2 .boolean 0 0 0 H [.ref (am 0), .int (iI v)] (mW am) (fun z H1 => z = bZ (decide (v = 0)) ∧ MP E am (mset M 0 0 v) H1) := by
  refine g_met (plainFor_of_name (by decide)) (Nat.le_of_ble_eq_true rfl) (fun P_ e_ s M_ bl mt_ c_ ls X hmeth_ hk hh hl => ?_)
  subst hh
  have X : gX P_ s M_ mt_ c_ cX3_holds 2 ([.ref (am 0), .int (iI v)] : List Value).toArray RX3 (some .boolean) := X
  have hl : lv_has ls 2 [(0, .ref (am 0)), (1, .int (iI v))] := hl
  have hS : va_S (mW am) s.heap s.heap [] := va_S.rf
  refine g_aload_n X dX3_holds_0 rfl hl 0 rfl ?_
  refine g_iload_n X dX3_holds_1 rfl hl 1 rfl ?_
  refine g_put X hk hS (MP.A0 hM (Or.inl rfl)) in_X3 tyX3 tyX3_ok nmX3 rfl (MP.O hM) 0 (by decide) q601 rfl (ty := .int) (by decide +kernel) (rfl) rfl (Nat.le_of_ble_eq_true rfl) dX3_holds_2 (fun H locs hc_ hk hz_ ho_ hS => ?_)
  obtain ⟨M1, eM1⟩ : ∃ M_ : MS, M_ = mset M 0 0 v := ⟨_, rfl⟩
  have hM : MP E am M1 H := by rw [eM1]; exact MP.put hM 0 rfl hc_ ho_
  have gM1 : ∀ f i, M1 f i = if f = 0 ∧ i = 0 then v else M f i := by intro f i; rw [eM1]; rfl
  refine g_iload_n X dX3_holds_5 rfl hl 1 rfl ?_
  refine g_if_ne X dX3_holds_6 (tgt := 13) (by decide) (by omega) (fun c6 => ?_) (fun c6 => ?_)
  · refine g_iconst X dX3_holds_13 ?_
    exact g_zret X (by omega) hS (⟨by grind [bZ], by rw [← eM1]; exact hM⟩) ⟨Nat.le_of_ble_eq_true rfl, Nat.le_of_ble_eq_true rfl⟩ dX3_holds_14
  · refine g_iconst X dX3_holds_9 ?_
    refine g_goto X dX3_holds_10 (tgt := 14) (by decide) ?_
    exact g_zret X (by omega) hS (⟨by grind [bZ], by rw [← eM1]; exact hM⟩) ⟨Nat.le_of_ble_eq_true rfl, Nat.le_of_ble_eq_true rfl⟩ dX3_holds_14
set_option maxHeartbeats 4000000 in
theorem m_plans (l : Launch) (E : EP) (am : Nat → Nat) (S : GS) (M : MS) (H : Heap) (hM : MP E am M H) (hI : gI S) (hR : MR S M) (j : Nat) (hj : j < gN S) : gMv l E yX3_plans cX3_plans 7 2 0 0 H [.ref (am 0), .int (iI ((j : Nat) : Int))] (mW am) (fun H1 => ∃ M1, MP E am M1 H1 ∧ mE (mPj j) M M1 ∧ mPl S M1 j ∧ M1 13 j = bZ (decide (0 ≤ lft S j))) := by
  refine g_met (plainFor_of_name (by decide)) (Nat.le_of_ble_eq_true rfl) (fun P_ e_ s M_ bl mt_ c_ ls X hmeth_ hk hh hl => ?_)
  subst hh
  have X : gX P_ s M_ mt_ c_ cX3_plans 7 ([.ref (am 0), .int (iI ((j : Nat) : Int))] : List Value).toArray RX3 none := X
  have hl : lv_has ls 7 [(0, .ref (am 0)), (1, .int (iI ((j : Nat) : Int)))] := hl
  have hS : va_S (mW am) s.heap s.heap [] := va_S.rf
  have hn5 := hI.1.1
  have hnp := (hI.2.2 j hj).1
  have hlb := fun k => lftK_b (hI.2.2 j hj) k
  have hcb := hI.2.1
  have hlf := lft_b hI hj
  have hal := alw_b hI hj
  have hrs := rst_ab hI hj
  have hE : mE (mPj j) M M := fun _ _ _ => rfl
  refine g_aload_n X dX3_plans_0 rfl hl 0 rfl ?_
  refine g_get X hk (v := .int (iI (gCyc S))) in_X3 rfl (MP.O hM) 2 (by decide) q603 (sI (MR.cyc hR)) dX3_plans_1 ?_
  refine g_istore_n (lv' := [(2, .int (iI (gCyc S))), (0, .ref (am 0)), (1, .int (iI ((j : Nat) : Int)))]) X dX3_plans_4 rfl hl (by decide) rfl (fun ls hl => ?_)
  refine g_iconst X dX3_plans_5 ?_
  refine g_istore_n (lv' := [(3, .int (iI 0)), (2, .int (iI (gCyc S))), (0, .ref (am 0)), (1, .int (iI ((j : Nat) : Int)))]) X dX3_plans_6 rfl hl (by decide) rfl (fun ls hl => ?_)
  refine g_iconst X dX3_plans_7 ?_
  refine g_istore (lv' := [(4, .int (iI 0)), (3, .int (iI 0)), (2, .int (iI (gCyc S))), (0, .ref (am 0)), (1, .int (iI ((j : Nat) : Int)))]) X dX3_plans_8 hl (by decide) rfl (fun ls hl => ?_)
  have loop_10 : gHide (∀ (n_ : Nat) (k : Nat) (Ma : MS) (v4 : Int) (v2 : Int) (v3 : Int) (H : Heap) (locs : List Loc), gNp S j + 1 ≤ k + n_ → v4 = ((k : Nat) : Int) → v2 = (lftK S j k) → v3 = (allK S j k) → (k ≤ gNp S j) → (mE (mPj j) M Ma) → (∀ p, p < k → Ma 12 (4 * j + p) = clr S j p) → (MR S Ma) → (kk E s H) → (va_S (mW am) s.heap H locs) → (MP E am Ma H) → ∀ (ls : Array Slot), lv_has ls 7 [(4, .int (iI v4)), (2, .int (iI v2)), (3, .int (iI v3)), (0, .ref (am 0)), (1, .int (iI ((j : Nat) : Int)))] → W P_ l e_ (gR 2 0 0) s M_ ([.ref (am 0), .int (iI ((j : Nat) : Int))] : List Value).toArray bl mt_ c_ H locs 0 0 (MQ bl (gQv (mW am) (fun H1 => ∃ M1, MP E am M1 H1 ∧ mE (mPj j) M M1 ∧ mPl S M1 j ∧ M1 13 j = bZ (decide (0 ≤ lft S j)))) ([.ref (am 0), .int (iI ((j : Nat) : Int))] : List Value).toArray s 0 0 (mW am)) (F0 M_ 10 ls [])) := by
    intro n_
    induction n_ with
    | zero => intro k Ma v4 v2 v3 H locs hb_ e_v4 e_v2 e_v3 hkb hE hA hR hk hS hM ls hl; exact absurd hb_ (by omega)
    | succ n_ ih_10 =>
      replace ih_10 := gHide.mk ih_10
      intro k Ma v4 v2 v3 H locs hb_ e_v4 e_v2 e_v3 hkb hE hA hR hk hS hM ls hl
      subst e_v4
      subst e_v2
      subst e_v3
      have hl : lv_has ls 7 [(4, .int (iI ((k : Nat) : Int))), (2, .int (iI (lftK S j k))), (3, .int (iI (allK S j k))), (0, .ref (am 0)), (1, .int (iI ((j : Nat) : Int)))] := hl
      refine g_iload X dX3_plans_10 hl 0 rfl ?_
      refine g_aload_n X dX3_plans_12 rfl hl 3 rfl ?_
      refine g_get X hk (v := .ref (am 6)) in_X3 rfl (MP.O hM) 6 (by decide) q607 (rfl) dX3_plans_13 ?_
      refine g_iload_n X dX3_plans_16 rfl hl 4 rfl ?_
      refine g_ialdv X hk (j := j) (n := 5) (f := (Ma 6)) (v := (((gNp S j) : Nat) : Int)) (MP.I hM 6 rfl) (rfl) (by omega) (MR.np hR hj) dX3_plans_17 ?_
      refine g_icmp_ge X dX3_plans_18 (tgt := 77) (by decide) (by omega) (fun c18 => ?_) (fun c18 => ?_)
      · have ekk : k = gNp S j := by omega
        have ev2 : (lftK S j k) = (lft S j) := by rw [ekk]; rfl
        have ev3 : (allK S j k) = (alw S j) := by rw [ekk]; rfl
        rw [ev2, ev3] at hl
        have hl : lv_has ls 7 [(4, .int (iI ((k : Nat) : Int))), (2, .int (iI (lft S j))), (3, .int (iI (alw S j))), (0, .ref (am 0)), (1, .int (iI ((j : Nat) : Int)))] := hl
        refine g_aload_n X dX3_plans_77 rfl hl 3 rfl ?_
        refine g_get X hk (v := .ref (am 13)) in_X3 rfl (MP.O hM) 13 (by decide) q614 (rfl) dX3_plans_78 ?_
        refine g_iload_n X dX3_plans_81 rfl hl 4 rfl ?_
        have join_91 : gHide (∀ (z : Int) (ls : Array Slot), z = (bZ (decide (0 ≤ lft S j))) → lv_has ls 7 [(4, .int (iI ((k : Nat) : Int))), (2, .int (iI (lft S j))), (3, .int (iI (alw S j))), (0, .ref (am 0)), (1, .int (iI ((j : Nat) : Int)))] → W P_ l e_ (gR 2 0 0) s M_ ([.ref (am 0), .int (iI ((j : Nat) : Int))] : List Value).toArray bl mt_ c_ H locs 0 0 (MQ bl (gQv (mW am) (fun H1 => ∃ M1, MP E am M1 H1 ∧ mE (mPj j) M M1 ∧ mPl S M1 j ∧ M1 13 j = bZ (decide (0 ≤ lft S j)))) ([.ref (am 0), .int (iI ((j : Nat) : Int))] : List Value).toArray s 0 0 (mW am)) (F0 M_ 91 ls [.int (iI z), .int (iI ((j : Nat) : Int)), .ref (am 13)])) := by
          intro z ls e_z hl
          subst e_z
          have hl : lv_has ls 7 [(4, .int (iI ((k : Nat) : Int))), (2, .int (iI (lft S j))), (3, .int (iI (alw S j))), (0, .ref (am 0)), (1, .int (iI ((j : Nat) : Int)))] := hl
          have hz91 := bZ_le (decide (0 ≤ lft S j))
          refine g_bast X hk hS (MP.A0 hM (Or.inr rfl)) (j := j) (n := 5) (f := (Ma 13)) (MP.Z hM 13 rfl) (by omega) (rfl) (by omega) dX3_plans_91 (fun H locs hc_ hk hz_ ho_ hS => ?_)
          obtain ⟨M2, eM2⟩ : ∃ M_ : MS, M_ = mset Ma 13 j (bZ (decide (0 ≤ lft S j))) := ⟨_, rfl⟩
          have hM : MP E am M2 H := by rw [eM2]; exact MP.astZ hM 13 rfl hc_ ho_
          have gM2 : ∀ f i, M2 f i = if f = 13 ∧ i = j then (bZ (decide (0 ≤ lft S j))) else Ma f i := by intro f i; rw [eM2]; rfl
          have hR : MR S M2 := by rw [eM2]; exact MR.ign hR rfl
          refine g_iload_n X dX3_plans_92 rfl hl 1 rfl ?_
          refine g_istore (lv' := [(4, .int (iI (lft S j))), (2, .int (iI (lft S j))), (3, .int (iI (alw S j))), (0, .ref (am 0)), (1, .int (iI ((j : Nat) : Int)))]) X dX3_plans_93 hl (by decide) rfl (fun ls hl => ?_)
          refine g_iconst X dX3_plans_95 ?_
          refine g_istore (lv' := [(5, .int (iI 0)), (4, .int (iI (lft S j))), (2, .int (iI (lft S j))), (3, .int (iI (alw S j))), (0, .ref (am 0)), (1, .int (iI ((j : Nat) : Int)))]) X dX3_plans_96 hl (by decide) rfl (fun ls hl => ?_)
          have loop_98 : gHide (∀ (n_ : Nat) (k : Nat) (Mb : MS) (v5 : Int) (v4 : Int) (H : Heap) (locs : List Loc), gNp S j + 1 ≤ k + n_ → v5 = ((k : Nat) : Int) → v4 = (rstK S j k) → (k ≤ gNp S j) → (mE (mPj j) M Mb) → (∀ p, p < gNp S j → Mb 12 (4 * j + p) = clr S j p) → (∀ p, p < k → Mb 11 (4 * j + p) = lst S j p + mor S j p) → (Mb 13 j = bZ (decide (0 ≤ lft S j))) → (MR S Mb) → (kk E s H) → (va_S (mW am) s.heap H locs) → (MP E am Mb H) → ∀ (ls : Array Slot), lv_has ls 7 [(5, .int (iI v5)), (4, .int (iI v4)), (2, .int (iI (lft S j))), (3, .int (iI (alw S j))), (0, .ref (am 0)), (1, .int (iI ((j : Nat) : Int)))] → W P_ l e_ (gR 2 0 0) s M_ ([.ref (am 0), .int (iI ((j : Nat) : Int))] : List Value).toArray bl mt_ c_ H locs 0 0 (MQ bl (gQv (mW am) (fun H1 => ∃ M1, MP E am M1 H1 ∧ mE (mPj j) M M1 ∧ mPl S M1 j ∧ M1 13 j = bZ (decide (0 ≤ lft S j)))) ([.ref (am 0), .int (iI ((j : Nat) : Int))] : List Value).toArray s 0 0 (mW am)) (F0 M_ 98 ls [])) := by
            intro n_
            induction n_ with
            | zero => intro k Mb v5 v4 H locs hb_ e_v5 e_v4 hkb hE hA hB h13 hR hk hS hM ls hl; exact absurd hb_ (by omega)
            | succ n_ ih_98 =>
              replace ih_98 := gHide.mk ih_98
              intro k Mb v5 v4 H locs hb_ e_v5 e_v4 hkb hE hA hB h13 hR hk hS hM ls hl
              subst e_v5
              subst e_v4
              have hl : lv_has ls 7 [(5, .int (iI ((k : Nat) : Int))), (4, .int (iI (rstK S j k))), (2, .int (iI (lft S j))), (3, .int (iI (alw S j))), (0, .ref (am 0)), (1, .int (iI ((j : Nat) : Int)))] := hl
              refine g_iload X dX3_plans_98 hl 0 rfl ?_
              refine g_aload_n X dX3_plans_100 rfl hl 4 rfl ?_
              refine g_get X hk (v := .ref (am 6)) in_X3 rfl (MP.O hM) 6 (by decide) q607 (rfl) dX3_plans_101 ?_
              refine g_iload_n X dX3_plans_104 rfl hl 5 rfl ?_
              refine g_ialdv X hk (j := j) (n := 5) (f := (Mb 6)) (v := (((gNp S j) : Nat) : Int)) (MP.I hM 6 rfl) (rfl) (by omega) (MR.np hR hj) dX3_plans_105 ?_
              refine g_icmp_ge X dX3_plans_106 (tgt := 171) (by decide) (by omega) (fun c106 => ?_) (fun c106 => ?_)
              · have ekk : k = gNp S j := by omega
                have ev4 : (rstK S j k) = (rst S j) := by rw [ekk]; rfl
                rw [ev4] at hl
                have hl : lv_has ls 7 [(5, .int (iI ((k : Nat) : Int))), (4, .int (iI (rst S j))), (2, .int (iI (lft S j))), (3, .int (iI (alw S j))), (0, .ref (am 0)), (1, .int (iI ((j : Nat) : Int)))] := hl
                refine g_iconst X dX3_plans_171 ?_
                refine g_istore (lv' := [(5, .int (iI 0)), (4, .int (iI (rst S j))), (2, .int (iI (lft S j))), (3, .int (iI (alw S j))), (0, .ref (am 0)), (1, .int (iI ((j : Nat) : Int)))]) X dX3_plans_172 hl (by decide) rfl (fun ls hl => ?_)
                have loop_174 : gHide (∀ (n_ : Nat) (k : Nat) (Mc : MS) (v5 : Int) (H : Heap) (locs : List Loc), gNp S j + 1 ≤ k + n_ → v5 = ((k : Nat) : Int) → (k ≤ gNp S j) → (mE (mPj j) M Mc) → (∀ p, p < gNp S j → Mc 12 (4 * j + p) = clr S j p) → (∀ p, p < k → Mc 11 (4 * j + p) = grn S j p) → (∀ p, k ≤ p → p < gNp S j → Mc 11 (4 * j + p) = lst S j p + mor S j p) → (Mc 13 j = bZ (decide (0 ≤ lft S j))) → (MR S Mc) → (kk E s H) → (va_S (mW am) s.heap H locs) → (MP E am Mc H) → ∀ (ls : Array Slot), lv_has ls 7 [(5, .int (iI v5)), (4, .int (iI (rst S j))), (0, .ref (am 0)), (1, .int (iI ((j : Nat) : Int)))] → W P_ l e_ (gR 2 0 0) s M_ ([.ref (am 0), .int (iI ((j : Nat) : Int))] : List Value).toArray bl mt_ c_ H locs 0 0 (MQ bl (gQv (mW am) (fun H1 => ∃ M1, MP E am M1 H1 ∧ mE (mPj j) M M1 ∧ mPl S M1 j ∧ M1 13 j = bZ (decide (0 ≤ lft S j)))) ([.ref (am 0), .int (iI ((j : Nat) : Int))] : List Value).toArray s 0 0 (mW am)) (F0 M_ 174 ls [])) := by
                  intro n_
                  induction n_ with
                  | zero => intro k Mc v5 H locs hb_ e_v5 hkb hE hA hB hC h13 hR hk hS hM ls hl; exact absurd hb_ (by omega)
                  | succ n_ ih_174 =>
                    replace ih_174 := gHide.mk ih_174
                    intro k Mc v5 H locs hb_ e_v5 hkb hE hA hB hC h13 hR hk hS hM ls hl
                    subst e_v5
                    have hl : lv_has ls 7 [(5, .int (iI ((k : Nat) : Int))), (4, .int (iI (rst S j))), (0, .ref (am 0)), (1, .int (iI ((j : Nat) : Int)))] := hl
                    refine g_iload X dX3_plans_174 hl 0 rfl ?_
                    refine g_aload_n X dX3_plans_176 rfl hl 2 rfl ?_
                    refine g_get X hk (v := .ref (am 6)) in_X3 rfl (MP.O hM) 6 (by decide) q607 (rfl) dX3_plans_177 ?_
                    refine g_iload_n X dX3_plans_180 rfl hl 3 rfl ?_
                    refine g_ialdv X hk (j := j) (n := 5) (f := (Mc 6)) (v := (((gNp S j) : Nat) : Int)) (MP.I hM 6 rfl) (rfl) (by omega) (MR.np hR hj) dX3_plans_181 ?_
                    refine g_icmp_ge X dX3_plans_182 (tgt := 217) (by decide) (by omega) (fun c182 => ?_) (fun c182 => ?_)
                    · exact g_vret X hS (⟨Mc, hM, hE, fun p hp => ⟨hB p (by omega), hA p hp⟩, h13⟩) ⟨Nat.le_of_ble_eq_true rfl, Nat.le_of_ble_eq_true rfl⟩ dX3_plans_217
                    · refine g_aload_n X dX3_plans_185 rfl hl 2 rfl ?_
                      refine g_get X hk (v := .ref (am 11)) in_X3 rfl (MP.O hM) 11 (by decide) q612 (rfl) dX3_plans_186 ?_
                      refine g_iconst X dX3_plans_189 ?_
                      refine g_iload_n X dX3_plans_190 rfl hl 3 rfl ?_
                      refine g_imul X dX3_plans_191 ?_
                      refine g_iload X dX3_plans_192 hl 0 rfl ?_
                      refine g_iadd X dX3_plans_194 ?_
                      refine g_dup2 X dX3_plans_195 rfl rfl ?_
                      refine g_ialdv X hk (j := ((4 * j) + k)) (n := 20) (f := (Mc 11)) (v := ((Mc 11) ((4 * j) + k))) (MP.I hM 11 rfl) (by omega) (by omega) (rfl) dX3_plans_196 ?_
                      refine g_iload X dX3_plans_197 hl 0 rfl ?_
                      refine g_iload X dX3_plans_199 hl 1 rfl ?_
                      refine g_icmp_ge X dX3_plans_201 (tgt := 208) (by decide) (by omega) (fun c201 => ?_) (fun c201 => ?_)
                      · refine g_iconst X dX3_plans_208 ?_
                        refine g_iadd X dX3_plans_209 ?_
                        refine g_iast X hk hS (MP.A0 hM (Or.inr rfl)) (j := ((4 * j) + k)) (n := 20) (f := (Mc 11)) (MP.I hM 11 rfl) (by omega) (by omega) dX3_plans_210 (fun H locs hc_ hk hz_ ho_ hS => ?_)
                        obtain ⟨M3, eM3⟩ : ∃ M_ : MS, M_ = mset Mc 11 ((4 * j) + k) (((Mc 11) ((4 * j) + k)) + 0) := ⟨_, rfl⟩
                        have hM : MP E am M3 H := by rw [eM3]; exact MP.ast hM 11 rfl hc_ ho_
                        have gM3 : ∀ f i, M3 f i = if f = 11 ∧ i = ((4 * j) + k) then (((Mc 11) ((4 * j) + k)) + 0) else Mc f i := by intro f i; rw [eM3]; rfl
                        have hR : MR S M3 := by rw [eM3]; exact MR.ign hR rfl
                        refine g_iinc (lv' := [(5, .int (iI (((k : Nat) : Int) + 1))), (4, .int (iI (rst S j))), (0, .ref (am 0)), (1, .int (iI ((j : Nat) : Int)))]) X dX3_plans_211 hl (k := 0) rfl (by decide) rfl (fun ls hl => ?_)
                        refine g_goto X dX3_plans_214 (tgt := 174) (by decide) ?_
                        exact ih_174.out (k + 1) M3 (((k : Nat) : Int) + 1) H locs (by omega) (by omega) (by omega) (by unfold mE mPj at *; grind) (by grind) (by grind [grn]) (by grind) (by grind) hR hk hS hM _ (lv_sub hl [0, 1, 2, 3] rfl)
                      · refine g_iconst X dX3_plans_204 ?_
                        refine g_goto X dX3_plans_205 (tgt := 209) (by decide) ?_
                        refine g_iadd X dX3_plans_209 ?_
                        refine g_iast X hk hS (MP.A0 hM (Or.inr rfl)) (j := ((4 * j) + k)) (n := 20) (f := (Mc 11)) (MP.I hM 11 rfl) (by omega) (by omega) dX3_plans_210 (fun H locs hc_ hk hz_ ho_ hS => ?_)
                        obtain ⟨M4, eM4⟩ : ∃ M_ : MS, M_ = mset Mc 11 ((4 * j) + k) (((Mc 11) ((4 * j) + k)) + 1) := ⟨_, rfl⟩
                        have hM : MP E am M4 H := by rw [eM4]; exact MP.ast hM 11 rfl hc_ ho_
                        have gM4 : ∀ f i, M4 f i = if f = 11 ∧ i = ((4 * j) + k) then (((Mc 11) ((4 * j) + k)) + 1) else Mc f i := by intro f i; rw [eM4]; rfl
                        have hR : MR S M4 := by rw [eM4]; exact MR.ign hR rfl
                        refine g_iinc (lv' := [(5, .int (iI (((k : Nat) : Int) + 1))), (4, .int (iI (rst S j))), (0, .ref (am 0)), (1, .int (iI ((j : Nat) : Int)))]) X dX3_plans_211 hl (k := 0) rfl (by decide) rfl (fun ls hl => ?_)
                        refine g_goto X dX3_plans_214 (tgt := 174) (by decide) ?_
                        exact ih_174.out (k + 1) M4 (((k : Nat) : Int) + 1) H locs (by omega) (by omega) (by omega) (by unfold mE mPj at *; grind) (by grind) (by grind [grn]) (by grind) (by grind) hR hk hS hM _ (lv_sub hl [0, 1, 2, 3] rfl)
                exact loop_174.out (gNp S j + 1) 0 Mb 0 H locs (by omega) (rfl) (by omega) hE hA (fun p hp => absurd hp (Nat.not_lt_zero p)) (by grind) h13 hR hk hS hM _ (lv_sub hl [0, 1, 4, 5] rfl)
              · have join_135 : gHide (∀ (z : Int) (ls : Array Slot), z = (mor S j k) → lv_has ls 7 [(5, .int (iI ((k : Nat) : Int))), (4, .int (iI (rstK S j k))), (2, .int (iI (lft S j))), (3, .int (iI (alw S j))), (0, .ref (am 0)), (1, .int (iI ((j : Nat) : Int)))] → W P_ l e_ (gR 2 0 0) s M_ ([.ref (am 0), .int (iI ((j : Nat) : Int))] : List Value).toArray bl mt_ c_ H locs 0 0 (MQ bl (gQv (mW am) (fun H1 => ∃ M1, MP E am M1 H1 ∧ mE (mPj j) M M1 ∧ mPl S M1 j ∧ M1 13 j = bZ (decide (0 ≤ lft S j)))) ([.ref (am 0), .int (iI ((j : Nat) : Int))] : List Value).toArray s 0 0 (mW am)) (F0 M_ 135 ls [.int (iI z)])) := by
                  intro z ls e_z hl
                  subst e_z
                  have hl : lv_has ls 7 [(5, .int (iI ((k : Nat) : Int))), (4, .int (iI (rstK S j k))), (2, .int (iI (lft S j))), (3, .int (iI (alw S j))), (0, .ref (am 0)), (1, .int (iI ((j : Nat) : Int)))] := hl
                  have hmor : mor S j k = mor S j k := rfl
                  refine g_istore (lv' := [(6, .int (iI (mor S j k))), (5, .int (iI ((k : Nat) : Int))), (4, .int (iI (rstK S j k))), (2, .int (iI (lft S j))), (3, .int (iI (alw S j))), (0, .ref (am 0)), (1, .int (iI ((j : Nat) : Int)))]) X dX3_plans_135 hl (by decide) rfl (fun ls hl => ?_)
                  refine g_aload_n X dX3_plans_137 rfl hl 5 rfl ?_
                  refine g_get X hk (v := .ref (am 11)) in_X3 rfl (MP.O hM) 11 (by decide) q612 (rfl) dX3_plans_138 ?_
                  refine g_iconst X dX3_plans_141 ?_
                  refine g_iload_n X dX3_plans_142 rfl hl 6 rfl ?_
                  refine g_imul X dX3_plans_143 ?_
                  refine g_iload X dX3_plans_144 hl 1 rfl ?_
                  refine g_iadd X dX3_plans_146 ?_
                  refine g_aload_n X dX3_plans_147 rfl hl 5 rfl ?_
                  refine g_iload_n X dX3_plans_148 rfl hl 6 rfl ?_
                  refine g_iload X dX3_plans_149 hl 1 rfl ?_
                  refine g_pV X hk (As := [.int (iI ((j : Nat) : Int)), .int (iI ((k : Nat) : Int))]) (rest := [.int (iI ((4 * ((j : Nat) : Int)) + ((k : Nat) : Int))), .ref (am 11)]) rfl (MP.O hM) (m_leastOf l E am S Mb H hM hI hR j hj k (by omega)) 2 (lw_V q763 q765 qs24 q48 q766) (by decide +kernel) ⟨⟨Nat.le_of_ble_eq_true rfl, Nat.le_of_ble_eq_true rfl⟩, Nat.le_of_ble_eq_true rfl, Nat.le_of_ble_eq_true rfl⟩ rfl rfl hl.1 (Nat.le_of_ble_eq_true rfl) dX3_plans_151 ?_
                  refine g_iload X dX3_plans_154 hl 0 rfl ?_
                  refine g_iadd X dX3_plans_156 ?_
                  refine g_iast X hk hS (MP.A0 hM (Or.inr rfl)) (j := ((4 * j) + k)) (n := 20) (f := (Mb 11)) (MP.I hM 11 rfl) (by omega) (by omega) dX3_plans_157 (fun H locs hc_ hk hz_ ho_ hS => ?_)
                  obtain ⟨M5, eM5⟩ : ∃ M_ : MS, M_ = mset Mb 11 ((4 * j) + k) ((lst S j k) + (mor S j k)) := ⟨_, rfl⟩
                  have hM : MP E am M5 H := by rw [eM5]; exact MP.ast hM 11 rfl hc_ ho_
                  have gM5 : ∀ f i, M5 f i = if f = 11 ∧ i = ((4 * j) + k) then ((lst S j k) + (mor S j k)) else Mb f i := by intro f i; rw [eM5]; rfl
                  have hR : MR S M5 := by rw [eM5]; exact MR.ign hR rfl
                  refine g_iload X dX3_plans_158 hl 2 rfl ?_
                  refine g_iload X dX3_plans_160 hl 0 rfl ?_
                  refine g_isub X dX3_plans_162 ?_
                  refine g_istore (lv' := [(4, .int (iI ((rstK S j k) - (mor S j k)))), (6, .int (iI (mor S j k))), (5, .int (iI ((k : Nat) : Int))), (2, .int (iI (lft S j))), (3, .int (iI (alw S j))), (0, .ref (am 0)), (1, .int (iI ((j : Nat) : Int)))]) X dX3_plans_163 hl (by decide) rfl (fun ls hl => ?_)
                  refine g_iinc (lv' := [(5, .int (iI (((k : Nat) : Int) + 1))), (4, .int (iI ((rstK S j k) - (mor S j k)))), (6, .int (iI (mor S j k))), (2, .int (iI (lft S j))), (3, .int (iI (alw S j))), (0, .ref (am 0)), (1, .int (iI ((j : Nat) : Int)))]) X dX3_plans_165 hl (k := 2) rfl (by decide) rfl (fun ls hl => ?_)
                  refine g_goto X dX3_plans_168 (tgt := 98) (by decide) ?_
                  exact ih_98.out (k + 1) M5 (((k : Nat) : Int) + 1) ((rstK S j k) - (mor S j k)) H locs (by omega) (by omega) (by show _ = rstK S j k - mor S j k; rw [hmor]) (by omega) (by unfold mE mPj at *; grind) (by grind) (by grind) (by grind) hR hk hS hM _ (lv_sub hl [0, 1, 3, 4, 5, 6] rfl)
                have hwb := wgt_b (hI.2.2 j hj) k
                have hmul : -76000 ≤ lft S j * wgt S j k ∧ lft S j * wgt S j k ≤ 153000 := by have h1 := Int.mul_le_mul_of_nonneg_right hlf.1 hwb.1; have h2 := Int.mul_le_mul_of_nonneg_right hlf.2 hwb.1; omega
                refine g_iload_n X dX3_plans_109 rfl hl 3 rfl ?_
                refine g_if_ne X dX3_plans_110 (tgt := 124) (by decide) (by omega) (fun c110 => ?_) (fun c110 => ?_)
                · refine g_iload_n X dX3_plans_124 rfl hl 2 rfl ?_
                  refine g_aload_n X dX3_plans_125 rfl hl 4 rfl ?_
                  refine g_iload_n X dX3_plans_126 rfl hl 5 rfl ?_
                  refine g_iload X dX3_plans_127 hl 0 rfl ?_
                  refine g_pV X hk (As := [.int (iI ((j : Nat) : Int)), .int (iI ((k : Nat) : Int))]) (rest := [.int (iI (lft S j))]) rfl (MP.O hM) (m_weight l E am S Mb H hM hI hR j hj k (by omega)) 2 (lw_V q767 q769 qs25 q48 q770) (by decide +kernel) ⟨⟨Nat.le_of_ble_eq_true rfl, Nat.le_of_ble_eq_true rfl⟩, Nat.le_of_ble_eq_true rfl, Nat.le_of_ble_eq_true rfl⟩ rfl rfl hl.1 (Nat.le_of_ble_eq_true rfl) dX3_plans_129 ?_
                  refine g_imul X dX3_plans_132 ?_
                  refine g_iload_n X dX3_plans_133 rfl hl 3 rfl ?_
                  have hmz : Int.tdiv ((lft S j) * (wgt S j k)) (alw S j) = mor S j k := by unfold mor; rw [if_neg (by omega)]
                  refine g_idiv X dX3_plans_134 (by omega) ?_
                  exact join_135.out (Int.tdiv ((lft S j) * (wgt S j k)) (alw S j)) _ (hmz) (lv_sub hl [0, 1, 2, 3, 4, 5] rfl)
                · refine g_iload_n X dX3_plans_113 rfl hl 2 rfl ?_
                  refine g_aload_n X dX3_plans_114 rfl hl 4 rfl ?_
                  refine g_get X hk (v := .ref (am 6)) in_X3 rfl (MP.O hM) 6 (by decide) q607 (rfl) dX3_plans_115 ?_
                  refine g_iload_n X dX3_plans_118 rfl hl 5 rfl ?_
                  refine g_ialdv X hk (j := j) (n := 5) (f := (Mb 6)) (v := (((gNp S j) : Nat) : Int)) (MP.I hM 6 rfl) (rfl) (by omega) (MR.np hR hj) dX3_plans_119 ?_
                  refine g_idiv X dX3_plans_120 (by omega) ?_
                  have hmz : Int.tdiv (lft S j) ((gNp S j : Nat) : Int) = mor S j k := by unfold mor; rw [if_pos (by omega)]
                  refine g_goto X dX3_plans_121 (tgt := 135) (by decide) ?_
                  exact join_135.out (Int.tdiv (lft S j) (((gNp S j) : Nat) : Int)) _ (hmz) (lv_sub hl [0, 1, 2, 3, 4, 5] rfl)
          exact loop_98.out (gNp S j + 1) 0 M2 0 (lft S j) H locs (by omega) (rfl) (rfl) (by omega) (by unfold mE mPj at *; grind) (by grind) (fun p hp => absurd hp (Nat.not_lt_zero p)) (by grind [bZ]) hR hk hS hM _ (lv_sub hl [0, 1, 2, 3, 4, 5] rfl)
        refine g_iload_n X dX3_plans_82 rfl hl 1 rfl ?_
        refine g_if_lt X dX3_plans_83 (tgt := 90) (by decide) (by omega) (fun c83 => ?_) (fun c83 => ?_)
        · refine g_iconst X dX3_plans_90 ?_
          exact join_91.out 0 _ (by grind [bZ]) (lv_sub hl [0, 1, 2, 3, 4] rfl)
        · refine g_iconst X dX3_plans_86 ?_
          refine g_goto X dX3_plans_87 (tgt := 91) (by decide) ?_
          exact join_91.out 1 _ (by grind [bZ]) (lv_sub hl [0, 1, 2, 3, 4] rfl)
      · refine g_aload_n X dX3_plans_21 rfl hl 3 rfl ?_
        refine g_get X hk (v := .ref (am 12)) in_X3 rfl (MP.O hM) 12 (by decide) q613 (rfl) dX3_plans_22 ?_
        refine g_iconst X dX3_plans_25 ?_
        refine g_iload_n X dX3_plans_26 rfl hl 4 rfl ?_
        refine g_imul X dX3_plans_27 ?_
        refine g_iload X dX3_plans_28 hl 0 rfl ?_
        refine g_iadd X dX3_plans_30 ?_
        refine g_aload_n X dX3_plans_31 rfl hl 3 rfl ?_
        refine g_iload_n X dX3_plans_32 rfl hl 4 rfl ?_
        refine g_iload X dX3_plans_33 hl 0 rfl ?_
        refine g_pV X hk (As := [.int (iI ((j : Nat) : Int)), .int (iI ((k : Nat) : Int))]) (rest := [.int (iI ((4 * ((j : Nat) : Int)) + ((k : Nat) : Int))), .ref (am 12)]) rfl (MP.O hM) (m_clearingOf l E am S Ma H hM hI hR j hj k (by omega)) 2 (lw_V q759 q761 qs23 q48 q762) (by decide +kernel) ⟨⟨Nat.le_of_ble_eq_true rfl, Nat.le_of_ble_eq_true rfl⟩, Nat.le_of_ble_eq_true rfl, Nat.le_of_ble_eq_true rfl⟩ rfl rfl hl.1 (Nat.le_of_ble_eq_true rfl) dX3_plans_35 ?_
        refine g_iast X hk hS (MP.A0 hM (Or.inr rfl)) (j := ((4 * j) + k)) (n := 20) (f := (Ma 12)) (MP.I hM 12 rfl) (by omega) (by omega) dX3_plans_38 (fun H locs hc_ hk hz_ ho_ hS => ?_)
        obtain ⟨M6, eM6⟩ : ∃ M_ : MS, M_ = mset Ma 12 ((4 * j) + k) (clr S j k) := ⟨_, rfl⟩
        have hM : MP E am M6 H := by rw [eM6]; exact MP.ast hM 12 rfl hc_ ho_
        have gM6 : ∀ f i, M6 f i = if f = 12 ∧ i = ((4 * j) + k) then (clr S j k) else Ma f i := by intro f i; rw [eM6]; rfl
        have hR : MR S M6 := by rw [eM6]; exact MR.ign hR rfl
        refine g_iload_n X dX3_plans_39 rfl hl 1 rfl ?_
        refine g_aload_n X dX3_plans_40 rfl hl 3 rfl ?_
        refine g_get X hk (v := .ref (am 12)) in_X3 rfl (MP.O hM) 12 (by decide) q613 (rfl) dX3_plans_41 ?_
        refine g_iconst X dX3_plans_44 ?_
        refine g_iload_n X dX3_plans_45 rfl hl 4 rfl ?_
        refine g_imul X dX3_plans_46 ?_
        refine g_iload X dX3_plans_47 hl 0 rfl ?_
        refine g_iadd X dX3_plans_49 ?_
        refine g_ialdv X hk (j := ((4 * j) + k)) (n := 20) (f := (M6 12)) (v := (clr S j k)) (MP.I hM 12 rfl) (by omega) (by omega) (by rw [gM6]; exact if_pos ⟨rfl, rfl⟩) dX3_plans_50 ?_
        refine g_aload_n X dX3_plans_51 rfl hl 3 rfl ?_
        refine g_iload_n X dX3_plans_52 rfl hl 4 rfl ?_
        refine g_iload X dX3_plans_53 hl 0 rfl ?_
        refine g_pV X hk (As := [.int (iI ((j : Nat) : Int)), .int (iI ((k : Nat) : Int))]) (rest := [.int (iI (clr S j k)), .int (iI (lftK S j k))]) rfl (MP.O hM) (m_leastOf l E am S M6 H hM hI hR j hj k (by omega)) 2 (lw_V q763 q765 qs24 q48 q766) (by decide +kernel) ⟨⟨Nat.le_of_ble_eq_true rfl, Nat.le_of_ble_eq_true rfl⟩, Nat.le_of_ble_eq_true rfl, Nat.le_of_ble_eq_true rfl⟩ rfl rfl hl.1 (Nat.le_of_ble_eq_true rfl) dX3_plans_55 ?_
        refine g_iadd X dX3_plans_58 ?_
        refine g_isub X dX3_plans_59 ?_
        refine g_istore_n (lv' := [(2, .int (iI ((lftK S j k) - ((clr S j k) + (lst S j k))))), (4, .int (iI ((k : Nat) : Int))), (3, .int (iI (allK S j k))), (0, .ref (am 0)), (1, .int (iI ((j : Nat) : Int)))]) X dX3_plans_60 rfl hl (by decide) rfl (fun ls hl => ?_)
        refine g_iload_n X dX3_plans_61 rfl hl 2 rfl ?_
        refine g_aload_n X dX3_plans_62 rfl hl 3 rfl ?_
        refine g_iload_n X dX3_plans_63 rfl hl 4 rfl ?_
        refine g_iload X dX3_plans_64 hl 1 rfl ?_
        refine g_pV X hk (As := [.int (iI ((j : Nat) : Int)), .int (iI ((k : Nat) : Int))]) (rest := [.int (iI (allK S j k))]) rfl (MP.O hM) (m_weight l E am S M6 H hM hI hR j hj k (by omega)) 2 (lw_V q767 q769 qs25 q48 q770) (by decide +kernel) ⟨⟨Nat.le_of_ble_eq_true rfl, Nat.le_of_ble_eq_true rfl⟩, Nat.le_of_ble_eq_true rfl, Nat.le_of_ble_eq_true rfl⟩ rfl rfl hl.1 (Nat.le_of_ble_eq_true rfl) dX3_plans_66 ?_
        refine g_iadd X dX3_plans_69 ?_
        refine g_istore_n (lv' := [(3, .int (iI ((allK S j k) + (wgt S j k)))), (2, .int (iI ((lftK S j k) - ((clr S j k) + (lst S j k))))), (4, .int (iI ((k : Nat) : Int))), (0, .ref (am 0)), (1, .int (iI ((j : Nat) : Int)))]) X dX3_plans_70 rfl hl (by decide) rfl (fun ls hl => ?_)
        refine g_iinc (lv' := [(4, .int (iI (((k : Nat) : Int) + 1))), (3, .int (iI ((allK S j k) + (wgt S j k)))), (2, .int (iI ((lftK S j k) - ((clr S j k) + (lst S j k))))), (0, .ref (am 0)), (1, .int (iI ((j : Nat) : Int)))]) X dX3_plans_71 hl (k := 2) rfl (by decide) rfl (fun ls hl => ?_)
        refine g_goto X dX3_plans_74 (tgt := 10) (by decide) ?_
        exact ih_10.out (k + 1) M6 (((k : Nat) : Int) + 1) ((lftK S j k) - ((clr S j k) + (lst S j k))) ((allK S j k) + (wgt S j k)) H locs (by omega) (by omega) (by show _ = lftK S j k - (lst S j k + clr S j k); omega) (rfl) (by omega) (by unfold mE mPj at *; grind) (by grind) hR hk hS hM _ (lv_sub hl [0, 2, 1, 3, 4] rfl)
  exact loop_10.out (gNp S j + 1) 0 M 0 (gCyc S) 0 s.heap [] (by omega) (rfl) (rfl) (rfl) (by omega) hE (fun p hp => absurd hp (Nat.not_lt_zero p)) hR hk hS hM _ (lv_sub hl [0, 2, 1, 3, 4] rfl)
def alP (S : GS) : Nat → Bool
  | 0 => true
  | k + 1 => alP S k && decide (0 ≤ lft S k)
theorem alP_iff (S : GS) : ∀ k, alP S k = true ↔ ∀ j, j < k → 0 ≤ lft S j := by
  intro k
  induction k with
  | zero => simp [alP]
  | succ k ih =>
    simp only [alP, Bool.and_eq_true, ih, decide_eq_true_eq]
    constructor
    · intro h j hj
      by_cases e : j = k
      · subst e; exact h.2
      · exact h.1 j (by omega)
    · intro h
      exact ⟨fun j hj => h j (by omega), h k (by omega)⟩
set_option maxHeartbeats 4000000 in
theorem m_plansAll (l : Launch) (E : EP) (am : Nat → Nat) (S : GS) (M : MS) (H : Heap) (hM : MP E am M H) (hI : gI S) (hR : MR S M) : gMi l E yX3_plansAll cX3_plansAll 3 .boolean 3 0 0 H [.ref (am 0)] (mW am) (fun z H1 => z = bZ (alP S (gN S)) ∧ ∃ M1, MP E am M1 H1 ∧ mT M M1 ∧ ∀ j, j < gN S → mPl S M1 j) := by
  refine g_met (plainFor_of_name (by decide)) (Nat.le_of_ble_eq_true rfl) (fun P_ e_ s M_ bl mt_ c_ ls X hmeth_ hk hh hl => ?_)
  subst hh
  have X : gX P_ s M_ mt_ c_ cX3_plansAll 3 ([.ref (am 0)] : List Value).toArray RX3 (some .boolean) := X
  have hl : lv_has ls 3 [(0, .ref (am 0))] := hl
  have hS : va_S (mW am) s.heap s.heap [] := va_S.rf
  have hn5 := hI.1.1
  have hnp : ∀ i, i < gN S → 1 ≤ gNp S i ∧ gNp S i ≤ 4 := fun i hi => (hI.2.2 i hi).1
  refine g_iconst X dX3_plansAll_0 ?_
  refine g_istore_n (lv' := [(1, .int (iI 1)), (0, .ref (am 0))]) X dX3_plansAll_1 rfl hl (by decide) rfl (fun ls hl => ?_)
  refine g_iconst X dX3_plansAll_2 ?_
  refine g_istore_n (lv' := [(2, .int (iI 0)), (1, .int (iI 1)), (0, .ref (am 0))]) X dX3_plansAll_3 rfl hl (by decide) rfl (fun ls hl => ?_)
  have loop_4 : gHide (∀ (n_ : Nat) (k : Nat) (Ma : MS) (v2 : Int) (v1 : Int) (H : Heap) (locs : List Loc), gN S + 1 ≤ k + n_ → v2 = ((k : Nat) : Int) → v1 = (bZ (alP S k)) → (k ≤ gN S) → (mT M Ma) → (∀ j, j < k → mPl S Ma j) → (MR S Ma) → (kk E s H) → (va_S (mW am) s.heap H locs) → (MP E am Ma H) → ∀ (ls : Array Slot), lv_has ls 3 [(2, .int (iI v2)), (1, .int (iI v1)), (0, .ref (am 0))] → W P_ l e_ (gR 3 0 0) s M_ ([.ref (am 0)] : List Value).toArray bl mt_ c_ H locs 0 0 (MQ bl (gQi (mW am) (fun z H1 => z = bZ (alP S (gN S)) ∧ ∃ M1, MP E am M1 H1 ∧ mT M M1 ∧ ∀ j, j < gN S → mPl S M1 j)) ([.ref (am 0)] : List Value).toArray s 0 0 (mW am)) (F0 M_ 4 ls [])) := by
    intro n_
    induction n_ with
    | zero => intro k Ma v2 v1 H locs hb_ e_v2 e_v1 hkb hQ hA hR hk hS hM ls hl; exact absurd hb_ (by omega)
    | succ n_ ih_4 =>
      replace ih_4 := gHide.mk ih_4
      intro k Ma v2 v1 H locs hb_ e_v2 e_v1 hkb hQ hA hR hk hS hM ls hl
      subst e_v2
      subst e_v1
      have hl : lv_has ls 3 [(2, .int (iI ((k : Nat) : Int))), (1, .int (iI (bZ (alP S k)))), (0, .ref (am 0))] := hl
      have hz := bZ_le (alP S k)
      refine g_iload_n X dX3_plansAll_4 rfl hl 0 rfl ?_
      refine g_aload_n X dX3_plansAll_5 rfl hl 2 rfl ?_
      refine g_get X hk (v := .int (iI (((gN S) : Nat) : Int))) in_X3 rfl (MP.O hM) 1 (by decide) q602 (sI (MR.n hR)) dX3_plansAll_6 ?_
      refine g_icmp_ge X dX3_plansAll_9 (tgt := 42) (by decide) (by omega) (fun c9 => ?_) (fun c9 => ?_)
      · refine g_iload_n X dX3_plansAll_42 rfl hl 1 rfl ?_
        exact g_zret X (by first | exact bZ_le _ | omega) hS (⟨by rw [show k = gN S by omega], Ma, hM, hQ, fun i hi => hA i (by omega)⟩) ⟨Nat.le_of_ble_eq_true rfl, Nat.le_of_ble_eq_true rfl⟩ dX3_plansAll_43
      · refine g_aload_n X dX3_plansAll_12 rfl hl 2 rfl ?_
        refine g_iload_n X dX3_plansAll_13 rfl hl 0 rfl ?_
        refine g_callv (g_runV X hk (As := [.int (iI ((k : Nat) : Int))]) (rest := []) rfl (MP.O hM) (m_plans l E am S Ma H hM hI hR k (by omega)) 1 (lw_V q755 q757 qs22 q48 q758) (by decide +kernel) ⟨⟨Nat.le_of_ble_eq_true rfl, Nat.le_of_ble_eq_true rfl⟩, Nat.le_of_ble_eq_true rfl, Nat.le_of_ble_eq_true rfl⟩ rfl rfl hl.1 (Nat.le_of_ble_eq_true rfl) dX3_plansAll_14) hk hS (fun q h => h) (MP.N hM) (fun H locs hP_ hk hz_ ho_ hS => ?_)
        obtain ⟨M7, hM, qM7, pM7, tM7⟩ := hP_
        have hR : MR S M7 := hR.Q qM7.Q
        refine g_iload_n X dX3_plansAll_17 rfl hl 1 rfl ?_
        refine g_if_eq X dX3_plansAll_18 (tgt := 34) (by decide) (by omega) (fun c18 => ?_) (fun c18 => ?_)
        · refine g_iconst X dX3_plansAll_34 ?_
          refine g_istore_n (lv' := [(1, .int (iI 0)), (2, .int (iI ((k : Nat) : Int))), (0, .ref (am 0))]) X dX3_plansAll_35 rfl hl (by decide) rfl (fun ls hl => ?_)
          refine g_iinc (lv' := [(2, .int (iI (((k : Nat) : Int) + 1))), (1, .int (iI 0)), (0, .ref (am 0))]) X dX3_plansAll_36 hl (k := 1) rfl (by decide) rfl (fun ls hl => ?_)
          refine g_goto X dX3_plansAll_39 (tgt := 4) (by decide) ?_
          exact ih_4.out (k + 1) M7 (((k : Nat) : Int) + 1) 0 H locs (by omega) (by omega) (by grind [bZ, alP]) (by omega) (hQ.trans qM7.T) (fun i hi => (Classical.em (i = k)).elim (fun e => by rw [e]; exact pM7) (fun e => (hA i (by omega)).E (hnp i (by omega)).2 qM7 e)) hR hk hS hM _ (lv_sub hl [0, 1, 2] rfl)
        · refine g_aload_n X dX3_plansAll_21 rfl hl 2 rfl ?_
          refine g_get X hk (v := .ref (am 13)) in_X3 rfl (MP.O hM) 13 (by decide) q614 (rfl) dX3_plansAll_22 ?_
          refine g_iload_n X dX3_plansAll_25 rfl hl 0 rfl ?_
          refine g_baldv X hk (j := k) (n := 5) (f := (M7 13)) (v := (bZ (decide (0 ≤ lft S k)))) (MP.Z hM 13 rfl) (rfl) (by omega) (tM7) dX3_plansAll_26 ?_
          have hz2 := bZ_le (decide (0 ≤ lft S k))
          refine g_if_eq X dX3_plansAll_27 (tgt := 34) (by decide) (by omega) (fun c27 => ?_) (fun c27 => ?_)
          · refine g_iconst X dX3_plansAll_34 ?_
            refine g_istore_n (lv' := [(1, .int (iI 0)), (2, .int (iI ((k : Nat) : Int))), (0, .ref (am 0))]) X dX3_plansAll_35 rfl hl (by decide) rfl (fun ls hl => ?_)
            refine g_iinc (lv' := [(2, .int (iI (((k : Nat) : Int) + 1))), (1, .int (iI 0)), (0, .ref (am 0))]) X dX3_plansAll_36 hl (k := 1) rfl (by decide) rfl (fun ls hl => ?_)
            refine g_goto X dX3_plansAll_39 (tgt := 4) (by decide) ?_
            exact ih_4.out (k + 1) M7 (((k : Nat) : Int) + 1) 0 H locs (by omega) (by omega) (by grind [bZ, alP]) (by omega) (hQ.trans qM7.T) (fun i hi => (Classical.em (i = k)).elim (fun e => by rw [e]; exact pM7) (fun e => (hA i (by omega)).E (hnp i (by omega)).2 qM7 e)) hR hk hS hM _ (lv_sub hl [0, 1, 2] rfl)
          · refine g_iconst X dX3_plansAll_30 ?_
            refine g_goto X dX3_plansAll_31 (tgt := 35) (by decide) ?_
            refine g_istore_n (lv' := [(1, .int (iI 1)), (2, .int (iI ((k : Nat) : Int))), (0, .ref (am 0))]) X dX3_plansAll_35 rfl hl (by decide) rfl (fun ls hl => ?_)
            refine g_iinc (lv' := [(2, .int (iI (((k : Nat) : Int) + 1))), (1, .int (iI 1)), (0, .ref (am 0))]) X dX3_plansAll_36 hl (k := 1) rfl (by decide) rfl (fun ls hl => ?_)
            refine g_goto X dX3_plansAll_39 (tgt := 4) (by decide) ?_
            exact ih_4.out (k + 1) M7 (((k : Nat) : Int) + 1) 1 H locs (by omega) (by omega) (by grind [bZ, alP]) (by omega) (hQ.trans qM7.T) (fun i hi => (Classical.em (i = k)).elim (fun e => by rw [e]; exact pM7) (fun e => (hA i (by omega)).E (hnp i (by omega)).2 qM7 e)) hR hk hS hM _ (lv_sub hl [0, 1, 2] rfl)
  exact loop_4.out (gN S + 1) 0 M 0 1 s.heap [] (by omega) (rfl) (rfl) (by omega) (mT.rf M) (fun p hp => absurd hp (Nat.not_lt_zero p)) hR hk hS hM _ (lv_sub hl [0, 1, 2] rfl)
set_option maxHeartbeats 4000000 in
theorem m_isPlanned (l : Launch) (E : EP) (am : Nat → Nat) (S : GS) (M : MS) (H : Heap) (hM : MP E am M H) (hI : gI S) (hR : MR S M) (j : Nat) (hj : j < gN S) : gMi l E yX3_isPlanned cX3_isPlanned 2 .boolean 3 0 0 H [.ref (am 0), .int (iI ((j : Nat) : Int))] (mW am) (fun z H1 => z = bZ (decide (0 ≤ lft S j)) ∧ ∃ M1, MP E am M1 H1 ∧ mT M M1 ∧ mPl S M1 j) := by
  refine g_met (plainFor_of_name (by decide)) (Nat.le_of_ble_eq_true rfl) (fun P_ e_ s M_ bl mt_ c_ ls X hmeth_ hk hh hl => ?_)
  subst hh
  have X : gX P_ s M_ mt_ c_ cX3_isPlanned 2 ([.ref (am 0), .int (iI ((j : Nat) : Int))] : List Value).toArray RX3 (some .boolean) := X
  have hl : lv_has ls 2 [(0, .ref (am 0)), (1, .int (iI ((j : Nat) : Int)))] := hl
  have hS : va_S (mW am) s.heap s.heap [] := va_S.rf
  have hn5 := hI.1.1
  refine g_aload_n X dX3_isPlanned_0 rfl hl 0 rfl ?_
  refine g_iload_n X dX3_isPlanned_1 rfl hl 1 rfl ?_
  refine g_callv (g_runV X hk (As := [.int (iI ((j : Nat) : Int))]) (rest := []) rfl (MP.O hM) (m_plans l E am S M s.heap hM hI hR j hj) 1 (lw_V q755 q757 qs22 q48 q758) (by decide +kernel) ⟨⟨Nat.le_of_ble_eq_true rfl, Nat.le_of_ble_eq_true rfl⟩, Nat.le_of_ble_eq_true rfl, Nat.le_of_ble_eq_true rfl⟩ rfl rfl hl.1 (Nat.le_of_ble_eq_true rfl) dX3_isPlanned_2) hk hS (fun q h => h) (MP.N hM) (fun H locs hP_ hk hz_ ho_ hS => ?_)
  obtain ⟨M8, hM, qM8, pM8, tM8⟩ := hP_
  have hR : MR S M8 := hR.Q qM8.Q
  refine g_aload_n X dX3_isPlanned_5 rfl hl 0 rfl ?_
  refine g_get X hk (v := .ref (am 13)) in_X3 rfl (MP.O hM) 13 (by decide) q614 (rfl) dX3_isPlanned_6 ?_
  refine g_iload_n X dX3_isPlanned_9 rfl hl 1 rfl ?_
  refine g_baldv X hk (j := j) (n := 5) (f := (M8 13)) (v := (bZ (decide (0 ≤ lft S j)))) (MP.Z hM 13 rfl) (rfl) (by omega) (tM8) dX3_isPlanned_10 ?_
  exact g_zret X (by first | exact bZ_le _ | omega) hS (⟨rfl, M8, hM, qM8.T, pM8⟩) ⟨Nat.le_of_ble_eq_true rfl, Nat.le_of_ble_eq_true rfl⟩ dX3_isPlanned_11
