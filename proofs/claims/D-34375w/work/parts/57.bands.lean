/-! the corridor: bands -/
theorem off_gAtP {S S1 : GS} (h : offE S S1) (j : Nat) (v t : Int) : gAtP S1 j v t = gAtP S j v t := by
  unfold gAtP
  have e1 : grn S1 j = grn S j := by funext p; exact off_grn h j p
  have e2 : clr S1 j = clr S j := by funext p; exact off_clr h j p
  have e3 : gPh S1 j = gPh S j := congrFun (h.2.1 3 (by decide)) j
  rw [e1, e2, h.np, e3]
theorem mgK.off {E : EP} {S S1 : GS} {s0 b q : Nat} {f : Nat → Option Nat} {k : Nat} {H : Heap} (h : mgK E S s0 b q f k H) (o : offE S S1) : mgK E S1 s0 b q f k H := by
  unfold mgK at h ⊢
  rw [o.n, o.cyc]
  refine ⟨h.1, h.2.1, fun i hi => ?_⟩
  obtain ⟨a, e1, e2, e3, e4⟩ := h.2.2 i hi
  refine ⟨a, e1, e2, e3, ?_⟩
  have e : (fun p : Nat => bZ (gAtP S1 (i / 2) ((i % 2 : Nat) : Int) (p : Int))) = (fun p : Nat => bZ (gAtP S (i / 2) ((i % 2 : Nat) : Int) (p : Int))) := by
    funext p
    rw [off_gAtP o]
  rw [e]
  exact e4
theorem frK_st {S : GS} {f : Bool} {t : Int} {i : Nat} (h : frK S f t i = false) : ∀ d, frK S f t (i + d) = false := by
  intro d
  induction d with
  | zero => exact h
  | succ d ih => show (frK S f t (i + d) && _) = false; rw [ih]; rfl
theorem fr_end {S : GS} {f : Bool} {t : Int} {i : Nat} (hi : i ≤ gN S) (h : i = gN S ∨ frK S f t i = false) : frK S f t i = frK S f t (gN S) := by
  rcases h with h | h
  · rw [h]
  · have := frK_st h (gN S - i)
    rw [show i + (gN S - i) = gN S by omega] at this
    rw [h, this]
theorem mg_el {S : GS} {j m : Nat} {t : Int} (hm : m < 2) (hc : 0 < gCyc S) : (fun p : Nat => bZ (gAtP S ((2 * j + m) / 2) (((2 * j + m) % 2 : Nat) : Int) (p : Int))) ((t - gOff S j) % gCyc S).toNat = bZ (gAt S j (m : Int) t) := by
  have h1 := Int.emod_nonneg (t - gOff S j) (show gCyc S ≠ 0 by omega)
  show bZ (gAtP S ((2 * j + m) / 2) (((2 * j + m) % 2 : Nat) : Int) ((((t - gOff S j) % gCyc S).toNat : Nat) : Int)) = _
  rw [show (2 * j + m) / 2 = j by omega, show (2 * j + m) % 2 = m by omega, Int.toNat_of_nonneg h1]
  rfl
theorem frT_s (S : GS) (t : Int) (i : Nat) (h : frK S true t i = true) : frK S true t (i + 1) = gAt S i 0 (atK S true t i) := by
  show (frK S true t i && gAt S (ixK S true i) (if true = true then 0 else 1) (atK S true t i)) = _
  rw [h, Bool.true_and]
  rfl
theorem frF_s (S : GS) (t : Int) (i : Nat) (h : frK S false t i = true) : frK S false t (i + 1) = gAt S (gN S - 1 - i) 1 (atK S false t i) := by
  show (frK S false t i && gAt S (ixK S false i) (if false = true then 0 else 1) (atK S false t i)) = _
  rw [h, Bool.true_and]
  rfl
set_option maxHeartbeats 4000000 in
theorem p_bandOfT (l : Launch) (E : EP) (ad : Nat → Nat → Nat) (S : GS) (s0 b q : Nat) (f : Nat → Option Nat) (H : Heap) (hP : GP E ad S H) (hI : gI S) (hM : mgK E S s0 b q f (2 * gN S) H) : gP l E yX1_bandOf cX1_bandOf 10 .int 2 H [.ref (ad 6 0), .ref q, .int (iI 0)] (bnd S true) := by
  refine g_met (plainFor_of_name (by decide)) (Nat.le_of_ble_eq_true rfl) (fun P_ e_ s M_ bl mt_ c_ ls X _ hk hh hl => ?_)
  subst hh
  have X : gX P_ s M_ mt_ c_ cX1_bandOf 10 ([.ref (ad 6 0), .ref q, .int (iI 0)] : List Value).toArray RX1 (some .int) := X
  have hl : lv_has ls 10 [(0, .ref (ad 6 0)), (1, .ref q), (2, .int (iI 0))] := hl
  have hn5 := hI.1.1
  have hc := hI.2.1
  refine g_iconst X dX1_bandOf_0 ?_
  refine g_istore_n (lv' := [(3, .int (iI 0)), (0, .ref (ad 6 0)), (1, .ref q), (2, .int (iI 0))]) X dX1_bandOf_1 rfl hl (by decide) rfl (fun ls hl => ?_)
  refine g_iconst X dX1_bandOf_2 ?_
  refine g_istore (lv' := [(4, .int (iI 0)), (3, .int (iI 0)), (0, .ref (ad 6 0)), (1, .ref q), (2, .int (iI 0))]) X dX1_bandOf_3 hl (by decide) rfl (fun ls hl => ?_)
  have loop_5 : gHide (∀ (n_ : Nat) (t : Nat) (v4 : Int) (v3 : Int), (gCyc S).toNat + 1 ≤ t + n_ → v4 = ((t : Nat) : Int) → v3 = (bnK S true t) → ((t : Int) ≤ gCyc S) → ∀ (ls : Array Slot), lv_has ls 10 [(4, .int (iI v4)), (3, .int (iI v3)), (0, .ref (ad 6 0)), (1, .ref q), (2, .int (iI 0))] → W P_ l e_ (gR 2 0 0) s M_ ([.ref (ad 6 0), .ref q, .int (iI 0)] : List Value).toArray bl mt_ c_ s.heap [] 0 0 (MQ bl (QcRead (iI (bnd S true))) ([.ref (ad 6 0), .ref q, .int (iI 0)] : List Value).toArray s 0 0 (fun _ => False)) (F0 M_ 5 ls [])) := by
    intro n_
    induction n_ with
    | zero => intro t v4 v3 hb_ e_v4 e_v3 htb ls hl; exact absurd hb_ (by omega)
    | succ n_ ih_5 =>
      replace ih_5 := gHide.mk ih_5
      intro t v4 v3 hb_ e_v4 e_v3 htb ls hl
      subst e_v4
      subst e_v3
      have hl : lv_has ls 10 [(4, .int (iI ((t : Nat) : Int))), (3, .int (iI (bnK S true t))), (0, .ref (ad 6 0)), (1, .ref q), (2, .int (iI 0))] := hl
      have hbk := bnK_b S true t
      refine g_iload X dX1_bandOf_5 hl 0 rfl ?_
      refine g_aload_n X dX1_bandOf_7 rfl hl 2 rfl ?_
      refine g_get X hk (v := .int (iI (gCyc S))) in_X1 rfl (GP.X hP) 1 (by decide) q143 (rfl) dX1_bandOf_8 ?_
      refine g_icmp_ge X dX1_bandOf_11 (tgt := 154) (by decide) (by omega) (fun c11 => ?_) (fun c11 => ?_)
      · refine g_iload_n X dX1_bandOf_154 rfl hl 1 rfl ?_
        exact g_iretP X (by rw [show t = (gCyc S).toNat by omega]; rfl) dX1_bandOf_155
      · refine g_iload X dX1_bandOf_14 hl 0 rfl ?_
        refine g_istore (lv' := [(5, .int (iI ((t : Nat) : Int))), (4, .int (iI ((t : Nat) : Int))), (3, .int (iI (bnK S true t))), (0, .ref (ad 6 0)), (1, .ref q), (2, .int (iI 0))]) X dX1_bandOf_16 hl (by decide) rfl (fun ls hl => ?_)
        refine g_iconst X dX1_bandOf_18 ?_
        refine g_istore (lv' := [(6, .int (iI 1)), (5, .int (iI ((t : Nat) : Int))), (4, .int (iI ((t : Nat) : Int))), (3, .int (iI (bnK S true t))), (0, .ref (ad 6 0)), (1, .ref q), (2, .int (iI 0))]) X dX1_bandOf_19 hl (by decide) rfl (fun ls hl => ?_)
        refine g_iconst X dX1_bandOf_21 ?_
        refine g_istore (lv' := [(7, .int (iI 0)), (6, .int (iI 1)), (5, .int (iI ((t : Nat) : Int))), (4, .int (iI ((t : Nat) : Int))), (3, .int (iI (bnK S true t))), (0, .ref (ad 6 0)), (1, .ref q), (2, .int (iI 0))]) X dX1_bandOf_22 hl (by decide) rfl (fun ls hl => ?_)
        have loop_24 : gHide (∀ (n_ : Nat) (i : Nat) (v7 : Int) (v6 : Int) (v5 : Int), gN S + 1 ≤ i + n_ → v7 = ((i : Nat) : Int) → v6 = (bZ (frK S true ((t : Nat) : Int) i)) → v5 = (atK S true ((t : Nat) : Int) i) → (i ≤ gN S) → ∀ (ls : Array Slot), lv_has ls 10 [(7, .int (iI v7)), (6, .int (iI v6)), (5, .int (iI v5)), (4, .int (iI ((t : Nat) : Int))), (3, .int (iI (bnK S true t))), (0, .ref (ad 6 0)), (1, .ref q), (2, .int (iI 0))] → W P_ l e_ (gR 2 0 0) s M_ ([.ref (ad 6 0), .ref q, .int (iI 0)] : List Value).toArray bl mt_ c_ s.heap [] 0 0 (MQ bl (QcRead (iI (bnd S true))) ([.ref (ad 6 0), .ref q, .int (iI 0)] : List Value).toArray s 0 0 (fun _ => False)) (F0 M_ 24 ls [])) := by
          intro n_
          induction n_ with
          | zero => intro i v7 v6 v5 hb_ e_v7 e_v6 e_v5 hib ls hl; exact absurd hb_ (by omega)
          | succ n_ ih_24 =>
            replace ih_24 := gHide.mk ih_24
            intro i v7 v6 v5 hb_ e_v7 e_v6 e_v5 hib ls hl
            subst e_v7
            subst e_v6
            subst e_v5
            have hl : lv_has ls 10 [(7, .int (iI ((i : Nat) : Int))), (6, .int (iI (bZ (frK S true ((t : Nat) : Int) i)))), (5, .int (iI (atK S true ((t : Nat) : Int) i))), (4, .int (iI ((t : Nat) : Int))), (3, .int (iI (bnK S true t))), (0, .ref (ad 6 0)), (1, .ref q), (2, .int (iI 0))] := hl
            have hz24 := bZ_le (frK S true ((t : Nat) : Int) i)
            have hat := atK_b hI true (t : Int) i
            have join_135 : gHide (∀ (v6 : Int) (ls : Array Slot), v6 = (bZ (frK S true ((t : Nat) : Int) (gN S))) → lv_has ls 10 [(6, .int (iI v6)), (4, .int (iI ((t : Nat) : Int))), (3, .int (iI (bnK S true t))), (0, .ref (ad 6 0)), (1, .ref q), (2, .int (iI 0))] → W P_ l e_ (gR 2 0 0) s M_ ([.ref (ad 6 0), .ref q, .int (iI 0)] : List Value).toArray bl mt_ c_ s.heap [] 0 0 (MQ bl (QcRead (iI (bnd S true))) ([.ref (ad 6 0), .ref q, .int (iI 0)] : List Value).toArray s 0 0 (fun _ => False)) (F0 M_ 135 ls [])) := by
              intro v6 ls e_v6 hl
              subst e_v6
              have hl : lv_has ls 10 [(6, .int (iI (bZ (frK S true ((t : Nat) : Int) (gN S))))), (4, .int (iI ((t : Nat) : Int))), (3, .int (iI (bnK S true t))), (0, .ref (ad 6 0)), (1, .ref q), (2, .int (iI 0))] := hl
              have hz135 := bZ_le (frK S true ((t : Nat) : Int) (gN S))
              refine g_iload_n X dX1_bandOf_135 rfl hl 2 rfl ?_
              have join_146 : gHide (∀ (z : Int) (ls : Array Slot), z = (bZ (frK S true ((t : Nat) : Int) (gN S))) → lv_has ls 10 [(6, .int (iI (bZ (frK S true ((t : Nat) : Int) (gN S))))), (4, .int (iI ((t : Nat) : Int))), (3, .int (iI (bnK S true t))), (0, .ref (ad 6 0)), (1, .ref q), (2, .int (iI 0))] → W P_ l e_ (gR 2 0 0) s M_ ([.ref (ad 6 0), .ref q, .int (iI 0)] : List Value).toArray bl mt_ c_ s.heap [] 0 0 (MQ bl (QcRead (iI (bnd S true))) ([.ref (ad 6 0), .ref q, .int (iI 0)] : List Value).toArray s 0 0 (fun _ => False)) (F0 M_ 146 ls [.int (iI z), .int (iI (bnK S true t))])) := by
                intro z ls e_z hl
                subst e_z
                have hl : lv_has ls 10 [(6, .int (iI (bZ (frK S true ((t : Nat) : Int) (gN S))))), (4, .int (iI ((t : Nat) : Int))), (3, .int (iI (bnK S true t))), (0, .ref (ad 6 0)), (1, .ref q), (2, .int (iI 0))] := hl
                refine g_iadd X dX1_bandOf_146 ?_
                refine g_istore_n (lv' := [(3, .int (iI ((bnK S true t) + (bZ (frK S true ((t : Nat) : Int) (gN S)))))), (6, .int (iI (bZ (frK S true ((t : Nat) : Int) (gN S))))), (4, .int (iI ((t : Nat) : Int))), (0, .ref (ad 6 0)), (1, .ref q), (2, .int (iI 0))]) X dX1_bandOf_147 rfl hl (by decide) rfl (fun ls hl => ?_)
                refine g_iinc (lv' := [(4, .int (iI (((t : Nat) : Int) + 1))), (3, .int (iI ((bnK S true t) + (bZ (frK S true ((t : Nat) : Int) (gN S)))))), (6, .int (iI (bZ (frK S true ((t : Nat) : Int) (gN S))))), (0, .ref (ad 6 0)), (1, .ref q), (2, .int (iI 0))]) X dX1_bandOf_148 hl (k := 2) rfl (by decide) rfl (fun ls hl => ?_)
                refine g_goto X dX1_bandOf_151 (tgt := 5) (by decide) ?_
                exact ih_5.out (t + 1) (((t : Nat) : Int) + 1) ((bnK S true t) + (bZ (frK S true ((t : Nat) : Int) (gN S)))) (by omega) (by omega) (rfl) (by omega) _ (lv_sub hl [0, 1, 3, 4, 5] rfl)
              refine g_iload X dX1_bandOf_136 hl 0 rfl ?_
              refine g_if_eq X dX1_bandOf_138 (tgt := 145) (by decide) (by omega) (fun c138 => ?_) (fun c138 => ?_)
              · refine g_iconst X dX1_bandOf_145 ?_
                exact join_146.out 0 _ (by grind [bZ]) (lv_sub hl [0, 1, 2, 3, 4, 5] rfl)
              · refine g_iconst X dX1_bandOf_141 ?_
                refine g_goto X dX1_bandOf_142 (tgt := 146) (by decide) ?_
                exact join_146.out 1 _ (by grind [bZ]) (lv_sub hl [0, 1, 2, 3, 4, 5] rfl)
            refine g_iload X dX1_bandOf_24 hl 0 rfl ?_
            refine g_aload_n X dX1_bandOf_26 rfl hl 5 rfl ?_
            refine g_get X hk (v := .ref (ad 7 0)) in_X1 rfl (GP.X hP) 0 (by decide) q142 (rfl) dX1_bandOf_27 ?_
            refine g_alenQ X hk (n := (gN S)) (GP.Q hP) rfl dX1_bandOf_30 ?_
            refine g_icmp_ge X dX1_bandOf_31 (tgt := 135) (by decide) (by omega) (fun c31 => ?_) (fun c31 => ?_)
            · exact join_135.out (bZ (frK S true ((t : Nat) : Int) i)) _ (by rw [fr_end hib (by first | exact Or.inl (by omega) | exact Or.inr (by grind [bZ]))]) (lv_sub hl [1, 3, 4, 5, 6, 7] rfl)
            · have hin : i < gN S := by omega
              refine g_iload X dX1_bandOf_34 hl 1 rfl ?_
              refine g_if_eq X dX1_bandOf_36 (tgt := 135) (by decide) (by omega) (fun c36 => ?_) (fun c36 => ?_)
              · exact join_135.out (bZ (frK S true ((t : Nat) : Int) i)) _ (by rw [fr_end hib (by first | exact Or.inl (by omega) | exact Or.inr (by grind [bZ]))]) (lv_sub hl [1, 3, 4, 5, 6, 7] rfl)
              · refine g_iload_n X dX1_bandOf_39 rfl hl 7 rfl ?_
                refine g_if_ne X dX1_bandOf_40 (tgt := 48) (by decide) (by omega) (fun c40 => ?_) (fun c40 => ?_)
                · exact absurd rfl c40
                · refine g_iload X dX1_bandOf_43 hl 0 rfl ?_
                  refine g_goto X dX1_bandOf_45 (tgt := 58) (by decide) ?_
                  refine g_istore (lv' := [(8, .int (iI ((i : Nat) : Int))), (7, .int (iI ((i : Nat) : Int))), (6, .int (iI (bZ (frK S true ((t : Nat) : Int) i)))), (5, .int (iI (atK S true ((t : Nat) : Int) i))), (4, .int (iI ((t : Nat) : Int))), (3, .int (iI (bnK S true t))), (0, .ref (ad 6 0)), (1, .ref q), (2, .int (iI 0))]) X dX1_bandOf_58 hl (by decide) rfl (fun ls hl => ?_)
                  refine g_aload_n X dX1_bandOf_60 rfl hl 7 rfl ?_
                  refine g_iconst X dX1_bandOf_61 ?_
                  refine g_iload X dX1_bandOf_62 hl 0 rfl ?_
                  refine g_imul X dX1_bandOf_64 ?_
                  refine g_iload_n X dX1_bandOf_65 rfl hl 8 rfl ?_
                  refine g_iadd X dX1_bandOf_66 ?_
                  obtain ⟨ra, hf1, hra, hne, hrow⟩ := hM.2.2 (2 * i + 0) (by omega)
                  refine g_aald X hk (j := 2 * i + 0) (n := 2 * gN S) (q := ra) hM.2.1 (cA := 5) rfl rfl (by omega) (by omega) (hf1) dX1_bandOf_67 ?_
                  refine g_aload_n X dX1_bandOf_68 rfl hl 6 rfl ?_
                  refine g_get X hk (v := .ref (ad 7 0)) in_X1 rfl (GP.X hP) 0 (by decide) q142 (rfl) dX1_bandOf_69 ?_
                  refine g_iload X dX1_bandOf_72 hl 0 rfl ?_
                  refine g_aald X hk (j := i) (n := (gN S)) (q := (ad 0 i)) (GP.Q hP) (cA := 1) rfl rfl (rfl) (by omega) (rfl) dX1_bandOf_74 ?_
                  refine g_iload X dX1_bandOf_75 hl 3 rfl ?_
                  refine g_pV X hk (As := [.int (iI (atK S true ((t : Nat) : Int) i))]) (rest := [.ref ra]) rfl (GP.J hP (by omega)) (p_placeIn l E ad S s.heap hP hI i (by omega) (atK S true ((t : Nat) : Int) i) (by omega)) 1 (lw_V q442 q443 q444 q47 q445) (by decide +kernel) ⟨⟨Nat.le_of_ble_eq_true rfl, Nat.le_of_ble_eq_true rfl⟩, Nat.le_of_ble_eq_true rfl, Nat.le_of_ble_eq_true rfl⟩ rfl rfl hl.1 (Nat.le_of_ble_eq_true rfl) dX1_bandOf_77 ?_
                  have hem := em_b (atK S true ((t : Nat) : Int) i - gOff S i) (gCyc S) hc.1
                  refine g_baldv X hk (j := ((((atK S true ((t : Nat) : Int) i) - gOff S i) % gCyc S)).toNat) (n := (gCyc S).toNat) (f := (fun p : Nat => bZ (gAtP S ((2 * i + 0) / 2) (((2 * i + 0) % 2 : Nat) : Int) (p : Int)))) (v := (bZ (gAt S i 0 (atK S true ((t : Nat) : Int) i)))) hrow (by omega) (by omega) (mg_el (m := 0) (by decide) (by omega)) dX1_bandOf_80 ?_
                  have hz81 := bZ_le (gAt S i 0 (atK S true ((t : Nat) : Int) i))
                  refine g_istore (lv' := [(6, .int (iI (bZ (gAt S i 0 (atK S true ((t : Nat) : Int) i))))), (8, .int (iI ((i : Nat) : Int))), (7, .int (iI ((i : Nat) : Int))), (5, .int (iI (atK S true ((t : Nat) : Int) i))), (4, .int (iI ((t : Nat) : Int))), (3, .int (iI (bnK S true t))), (0, .ref (ad 6 0)), (1, .ref q), (2, .int (iI 0))]) X dX1_bandOf_81 hl (by decide) rfl (fun ls hl => ?_)
                  refine g_iload_n X dX1_bandOf_83 rfl hl 8 rfl ?_
                  refine g_if_ne X dX1_bandOf_84 (tgt := 92) (by decide) (by omega) (fun c84 => ?_) (fun c84 => ?_)
                  · exact absurd rfl c84
                  · refine g_iload X dX1_bandOf_87 hl 1 rfl ?_
                    refine g_goto X dX1_bandOf_89 (tgt := 96) (by decide) ?_
                    refine g_istore (lv' := [(9, .int (iI ((i : Nat) : Int))), (6, .int (iI (bZ (gAt S i 0 (atK S true ((t : Nat) : Int) i))))), (8, .int (iI ((i : Nat) : Int))), (7, .int (iI ((i : Nat) : Int))), (5, .int (iI (atK S true ((t : Nat) : Int) i))), (4, .int (iI ((t : Nat) : Int))), (3, .int (iI (bnK S true t))), (0, .ref (ad 6 0)), (1, .ref q), (2, .int (iI 0))]) X dX1_bandOf_96 hl (by decide) rfl (fun ls hl => ?_)
                    have join_126 : gHide (∀ (z : Int) (ls : Array Slot), z = (lkK S true i) → lv_has ls 10 [(6, .int (iI (bZ (gAt S i 0 (atK S true ((t : Nat) : Int) i))))), (8, .int (iI ((i : Nat) : Int))), (7, .int (iI ((i : Nat) : Int))), (5, .int (iI (atK S true ((t : Nat) : Int) i))), (4, .int (iI ((t : Nat) : Int))), (3, .int (iI (bnK S true t))), (0, .ref (ad 6 0)), (1, .ref q), (2, .int (iI 0))] → W P_ l e_ (gR 2 0 0) s M_ ([.ref (ad 6 0), .ref q, .int (iI 0)] : List Value).toArray bl mt_ c_ s.heap [] 0 0 (MQ bl (QcRead (iI (bnd S true))) ([.ref (ad 6 0), .ref q, .int (iI 0)] : List Value).toArray s 0 0 (fun _ => False)) (F0 M_ 126 ls [.int (iI z), .int (iI (atK S true ((t : Nat) : Int) i))])) := by
                      intro z ls e_z hl
                      subst e_z
                      have hl : lv_has ls 10 [(6, .int (iI (bZ (gAt S i 0 (atK S true ((t : Nat) : Int) i))))), (8, .int (iI ((i : Nat) : Int))), (7, .int (iI ((i : Nat) : Int))), (5, .int (iI (atK S true ((t : Nat) : Int) i))), (4, .int (iI ((t : Nat) : Int))), (3, .int (iI (bnK S true t))), (0, .ref (ad 6 0)), (1, .ref q), (2, .int (iI 0))] := hl
                      refine g_iadd X dX1_bandOf_126 ?_
                      refine g_istore (lv' := [(5, .int (iI ((atK S true ((t : Nat) : Int) i) + (lkK S true i)))), (6, .int (iI (bZ (gAt S i 0 (atK S true ((t : Nat) : Int) i))))), (8, .int (iI ((i : Nat) : Int))), (7, .int (iI ((i : Nat) : Int))), (4, .int (iI ((t : Nat) : Int))), (3, .int (iI (bnK S true t))), (0, .ref (ad 6 0)), (1, .ref q), (2, .int (iI 0))]) X dX1_bandOf_127 hl (by decide) rfl (fun ls hl => ?_)
                      refine g_iinc (lv' := [(7, .int (iI (((i : Nat) : Int) + 1))), (5, .int (iI ((atK S true ((t : Nat) : Int) i) + (lkK S true i)))), (6, .int (iI (bZ (gAt S i 0 (atK S true ((t : Nat) : Int) i))))), (8, .int (iI ((i : Nat) : Int))), (4, .int (iI ((t : Nat) : Int))), (3, .int (iI (bnK S true t))), (0, .ref (ad 6 0)), (1, .ref q), (2, .int (iI 0))]) X dX1_bandOf_129 hl (k := 3) rfl (by decide) rfl (fun ls hl => ?_)
                      refine g_goto X dX1_bandOf_132 (tgt := 24) (by decide) ?_
                      exact ih_24.out (i + 1) (((i : Nat) : Int) + 1) (bZ (gAt S i 0 (atK S true ((t : Nat) : Int) i))) ((atK S true ((t : Nat) : Int) i) + (lkK S true i)) (by omega) (by omega) (by rw [frT_s S _ i (by grind [bZ])]) (rfl) (by omega) _ (lv_sub hl [0, 2, 1, 4, 5, 6, 7, 8] rfl)
                    refine g_iload X dX1_bandOf_98 hl 4 rfl ?_
                    refine g_iload X dX1_bandOf_100 hl 3 rfl ?_
                    refine g_aload_n X dX1_bandOf_102 rfl hl 7 rfl ?_
                    refine g_get X hk (v := .ref (ad 7 0)) in_X1 rfl (GP.X hP) 0 (by decide) q142 (rfl) dX1_bandOf_103 ?_
                    refine g_alenQ X hk (n := (gN S)) (GP.Q hP) rfl dX1_bandOf_106 ?_
                    refine g_iconst X dX1_bandOf_107 ?_
                    refine g_isub X dX1_bandOf_108 ?_
                    refine g_icmp_ge X dX1_bandOf_109 (tgt := 125) (by decide) (by omega) (fun c109 => ?_) (fun c109 => ?_)
                    · refine g_iconst X dX1_bandOf_125 ?_
                      exact join_126.out 0 _ (by unfold lkK; grind) (lv_sub hl [1, 2, 3, 4, 5, 6, 7, 8, 9] rfl)
                    · refine g_aload_n X dX1_bandOf_112 rfl hl 7 rfl ?_
                      refine g_get X hk (v := .ref (ad 7 0)) in_X1 rfl (GP.X hP) 0 (by decide) q142 (rfl) dX1_bandOf_113 ?_
                      refine g_iload X dX1_bandOf_116 hl 0 rfl ?_
                      refine g_aald X hk (j := i) (n := (gN S)) (q := (ad 0 i)) (GP.Q hP) (cA := 1) rfl rfl (rfl) (by omega) (rfl) dX1_bandOf_118 ?_
                      refine g_getN X hk (v := .int (iI (gLnk S i))) (host := "Greenwave") in_X2 rfl (GP.J hP (by omega)) 5 (by decide) 5 rfl (rfl) dX1_bandOf_119 ?_
                      refine g_goto X dX1_bandOf_122 (tgt := 126) (by decide) ?_
                      exact join_126.out (gLnk S i) _ (by unfold lkK; grind) (lv_sub hl [1, 2, 3, 4, 5, 6, 7, 8, 9] rfl)
        exact loop_24.out (gN S + 1) 0 0 1 ((t : Nat) : Int) (by omega) (rfl) (rfl) (rfl) (by omega) _ (lv_sub hl [0, 1, 2, 3, 4, 5, 6, 7] rfl)
  exact loop_5.out ((gCyc S).toNat + 1) 0 0 0 (by omega) (rfl) (rfl) (by omega) _ (lv_sub hl [0, 1, 2, 3, 4] rfl)
set_option maxHeartbeats 4000000 in
theorem p_bandOfF (l : Launch) (E : EP) (ad : Nat → Nat → Nat) (S : GS) (s0 b q : Nat) (f : Nat → Option Nat) (H : Heap) (hP : GP E ad S H) (hI : gI S) (hM : mgK E S s0 b q f (2 * gN S) H) : gP l E yX1_bandOf cX1_bandOf 10 .int 2 H [.ref (ad 6 0), .ref q, .int (iI 1)] (bnd S false) := by
  refine g_met (plainFor_of_name (by decide)) (Nat.le_of_ble_eq_true rfl) (fun P_ e_ s M_ bl mt_ c_ ls X _ hk hh hl => ?_)
  subst hh
  have X : gX P_ s M_ mt_ c_ cX1_bandOf 10 ([.ref (ad 6 0), .ref q, .int (iI 1)] : List Value).toArray RX1 (some .int) := X
  have hl : lv_has ls 10 [(0, .ref (ad 6 0)), (1, .ref q), (2, .int (iI 1))] := hl
  have hn5 := hI.1.1
  have hc := hI.2.1
  refine g_iconst X dX1_bandOf_0 ?_
  refine g_istore_n (lv' := [(3, .int (iI 0)), (0, .ref (ad 6 0)), (1, .ref q), (2, .int (iI 1))]) X dX1_bandOf_1 rfl hl (by decide) rfl (fun ls hl => ?_)
  refine g_iconst X dX1_bandOf_2 ?_
  refine g_istore (lv' := [(4, .int (iI 0)), (3, .int (iI 0)), (0, .ref (ad 6 0)), (1, .ref q), (2, .int (iI 1))]) X dX1_bandOf_3 hl (by decide) rfl (fun ls hl => ?_)
  have loop_5 : gHide (∀ (n_ : Nat) (t : Nat) (v4 : Int) (v3 : Int), (gCyc S).toNat + 1 ≤ t + n_ → v4 = ((t : Nat) : Int) → v3 = (bnK S false t) → ((t : Int) ≤ gCyc S) → ∀ (ls : Array Slot), lv_has ls 10 [(4, .int (iI v4)), (3, .int (iI v3)), (0, .ref (ad 6 0)), (1, .ref q), (2, .int (iI 1))] → W P_ l e_ (gR 2 0 0) s M_ ([.ref (ad 6 0), .ref q, .int (iI 1)] : List Value).toArray bl mt_ c_ s.heap [] 0 0 (MQ bl (QcRead (iI (bnd S false))) ([.ref (ad 6 0), .ref q, .int (iI 1)] : List Value).toArray s 0 0 (fun _ => False)) (F0 M_ 5 ls [])) := by
    intro n_
    induction n_ with
    | zero => intro t v4 v3 hb_ e_v4 e_v3 htb ls hl; exact absurd hb_ (by omega)
    | succ n_ ih_5 =>
      replace ih_5 := gHide.mk ih_5
      intro t v4 v3 hb_ e_v4 e_v3 htb ls hl
      subst e_v4
      subst e_v3
      have hl : lv_has ls 10 [(4, .int (iI ((t : Nat) : Int))), (3, .int (iI (bnK S false t))), (0, .ref (ad 6 0)), (1, .ref q), (2, .int (iI 1))] := hl
      have hbk := bnK_b S false t
      refine g_iload X dX1_bandOf_5 hl 0 rfl ?_
      refine g_aload_n X dX1_bandOf_7 rfl hl 2 rfl ?_
      refine g_get X hk (v := .int (iI (gCyc S))) in_X1 rfl (GP.X hP) 1 (by decide) q143 (rfl) dX1_bandOf_8 ?_
      refine g_icmp_ge X dX1_bandOf_11 (tgt := 154) (by decide) (by omega) (fun c11 => ?_) (fun c11 => ?_)
      · refine g_iload_n X dX1_bandOf_154 rfl hl 1 rfl ?_
        exact g_iretP X (by rw [show t = (gCyc S).toNat by omega]; rfl) dX1_bandOf_155
      · refine g_iload X dX1_bandOf_14 hl 0 rfl ?_
        refine g_istore (lv' := [(5, .int (iI ((t : Nat) : Int))), (4, .int (iI ((t : Nat) : Int))), (3, .int (iI (bnK S false t))), (0, .ref (ad 6 0)), (1, .ref q), (2, .int (iI 1))]) X dX1_bandOf_16 hl (by decide) rfl (fun ls hl => ?_)
        refine g_iconst X dX1_bandOf_18 ?_
        refine g_istore (lv' := [(6, .int (iI 1)), (5, .int (iI ((t : Nat) : Int))), (4, .int (iI ((t : Nat) : Int))), (3, .int (iI (bnK S false t))), (0, .ref (ad 6 0)), (1, .ref q), (2, .int (iI 1))]) X dX1_bandOf_19 hl (by decide) rfl (fun ls hl => ?_)
        refine g_iconst X dX1_bandOf_21 ?_
        refine g_istore (lv' := [(7, .int (iI 0)), (6, .int (iI 1)), (5, .int (iI ((t : Nat) : Int))), (4, .int (iI ((t : Nat) : Int))), (3, .int (iI (bnK S false t))), (0, .ref (ad 6 0)), (1, .ref q), (2, .int (iI 1))]) X dX1_bandOf_22 hl (by decide) rfl (fun ls hl => ?_)
        have loop_24 : gHide (∀ (n_ : Nat) (i : Nat) (v7 : Int) (v6 : Int) (v5 : Int), gN S + 1 ≤ i + n_ → v7 = ((i : Nat) : Int) → v6 = (bZ (frK S false ((t : Nat) : Int) i)) → v5 = (atK S false ((t : Nat) : Int) i) → (i ≤ gN S) → ∀ (ls : Array Slot), lv_has ls 10 [(7, .int (iI v7)), (6, .int (iI v6)), (5, .int (iI v5)), (4, .int (iI ((t : Nat) : Int))), (3, .int (iI (bnK S false t))), (0, .ref (ad 6 0)), (1, .ref q), (2, .int (iI 1))] → W P_ l e_ (gR 2 0 0) s M_ ([.ref (ad 6 0), .ref q, .int (iI 1)] : List Value).toArray bl mt_ c_ s.heap [] 0 0 (MQ bl (QcRead (iI (bnd S false))) ([.ref (ad 6 0), .ref q, .int (iI 1)] : List Value).toArray s 0 0 (fun _ => False)) (F0 M_ 24 ls [])) := by
          intro n_
          induction n_ with
          | zero => intro i v7 v6 v5 hb_ e_v7 e_v6 e_v5 hib ls hl; exact absurd hb_ (by omega)
          | succ n_ ih_24 =>
            replace ih_24 := gHide.mk ih_24
            intro i v7 v6 v5 hb_ e_v7 e_v6 e_v5 hib ls hl
            subst e_v7
            subst e_v6
            subst e_v5
            have hl : lv_has ls 10 [(7, .int (iI ((i : Nat) : Int))), (6, .int (iI (bZ (frK S false ((t : Nat) : Int) i)))), (5, .int (iI (atK S false ((t : Nat) : Int) i))), (4, .int (iI ((t : Nat) : Int))), (3, .int (iI (bnK S false t))), (0, .ref (ad 6 0)), (1, .ref q), (2, .int (iI 1))] := hl
            have hz24 := bZ_le (frK S false ((t : Nat) : Int) i)
            have hat := atK_b hI false (t : Int) i
            have join_135 : gHide (∀ (v6 : Int) (ls : Array Slot), v6 = (bZ (frK S false ((t : Nat) : Int) (gN S))) → lv_has ls 10 [(6, .int (iI v6)), (4, .int (iI ((t : Nat) : Int))), (3, .int (iI (bnK S false t))), (0, .ref (ad 6 0)), (1, .ref q), (2, .int (iI 1))] → W P_ l e_ (gR 2 0 0) s M_ ([.ref (ad 6 0), .ref q, .int (iI 1)] : List Value).toArray bl mt_ c_ s.heap [] 0 0 (MQ bl (QcRead (iI (bnd S false))) ([.ref (ad 6 0), .ref q, .int (iI 1)] : List Value).toArray s 0 0 (fun _ => False)) (F0 M_ 135 ls [])) := by
              intro v6 ls e_v6 hl
              subst e_v6
              have hl : lv_has ls 10 [(6, .int (iI (bZ (frK S false ((t : Nat) : Int) (gN S))))), (4, .int (iI ((t : Nat) : Int))), (3, .int (iI (bnK S false t))), (0, .ref (ad 6 0)), (1, .ref q), (2, .int (iI 1))] := hl
              have hz135 := bZ_le (frK S false ((t : Nat) : Int) (gN S))
              refine g_iload_n X dX1_bandOf_135 rfl hl 2 rfl ?_
              have join_146 : gHide (∀ (z : Int) (ls : Array Slot), z = (bZ (frK S false ((t : Nat) : Int) (gN S))) → lv_has ls 10 [(6, .int (iI (bZ (frK S false ((t : Nat) : Int) (gN S))))), (4, .int (iI ((t : Nat) : Int))), (3, .int (iI (bnK S false t))), (0, .ref (ad 6 0)), (1, .ref q), (2, .int (iI 1))] → W P_ l e_ (gR 2 0 0) s M_ ([.ref (ad 6 0), .ref q, .int (iI 1)] : List Value).toArray bl mt_ c_ s.heap [] 0 0 (MQ bl (QcRead (iI (bnd S false))) ([.ref (ad 6 0), .ref q, .int (iI 1)] : List Value).toArray s 0 0 (fun _ => False)) (F0 M_ 146 ls [.int (iI z), .int (iI (bnK S false t))])) := by
                intro z ls e_z hl
                subst e_z
                have hl : lv_has ls 10 [(6, .int (iI (bZ (frK S false ((t : Nat) : Int) (gN S))))), (4, .int (iI ((t : Nat) : Int))), (3, .int (iI (bnK S false t))), (0, .ref (ad 6 0)), (1, .ref q), (2, .int (iI 1))] := hl
                refine g_iadd X dX1_bandOf_146 ?_
                refine g_istore_n (lv' := [(3, .int (iI ((bnK S false t) + (bZ (frK S false ((t : Nat) : Int) (gN S)))))), (6, .int (iI (bZ (frK S false ((t : Nat) : Int) (gN S))))), (4, .int (iI ((t : Nat) : Int))), (0, .ref (ad 6 0)), (1, .ref q), (2, .int (iI 1))]) X dX1_bandOf_147 rfl hl (by decide) rfl (fun ls hl => ?_)
                refine g_iinc (lv' := [(4, .int (iI (((t : Nat) : Int) + 1))), (3, .int (iI ((bnK S false t) + (bZ (frK S false ((t : Nat) : Int) (gN S)))))), (6, .int (iI (bZ (frK S false ((t : Nat) : Int) (gN S))))), (0, .ref (ad 6 0)), (1, .ref q), (2, .int (iI 1))]) X dX1_bandOf_148 hl (k := 2) rfl (by decide) rfl (fun ls hl => ?_)
                refine g_goto X dX1_bandOf_151 (tgt := 5) (by decide) ?_
                exact ih_5.out (t + 1) (((t : Nat) : Int) + 1) ((bnK S false t) + (bZ (frK S false ((t : Nat) : Int) (gN S)))) (by omega) (by omega) (rfl) (by omega) _ (lv_sub hl [0, 1, 3, 4, 5] rfl)
              refine g_iload X dX1_bandOf_136 hl 0 rfl ?_
              refine g_if_eq X dX1_bandOf_138 (tgt := 145) (by decide) (by omega) (fun c138 => ?_) (fun c138 => ?_)
              · refine g_iconst X dX1_bandOf_145 ?_
                exact join_146.out 0 _ (by grind [bZ]) (lv_sub hl [0, 1, 2, 3, 4, 5] rfl)
              · refine g_iconst X dX1_bandOf_141 ?_
                refine g_goto X dX1_bandOf_142 (tgt := 146) (by decide) ?_
                exact join_146.out 1 _ (by grind [bZ]) (lv_sub hl [0, 1, 2, 3, 4, 5] rfl)
            refine g_iload X dX1_bandOf_24 hl 0 rfl ?_
            refine g_aload_n X dX1_bandOf_26 rfl hl 5 rfl ?_
            refine g_get X hk (v := .ref (ad 7 0)) in_X1 rfl (GP.X hP) 0 (by decide) q142 (rfl) dX1_bandOf_27 ?_
            refine g_alenQ X hk (n := (gN S)) (GP.Q hP) rfl dX1_bandOf_30 ?_
            refine g_icmp_ge X dX1_bandOf_31 (tgt := 135) (by decide) (by omega) (fun c31 => ?_) (fun c31 => ?_)
            · exact join_135.out (bZ (frK S false ((t : Nat) : Int) i)) _ (by rw [fr_end hib (by first | exact Or.inl (by omega) | exact Or.inr (by grind [bZ]))]) (lv_sub hl [1, 3, 4, 5, 6, 7] rfl)
            · have hin : i < gN S := by omega
              refine g_iload X dX1_bandOf_34 hl 1 rfl ?_
              refine g_if_eq X dX1_bandOf_36 (tgt := 135) (by decide) (by omega) (fun c36 => ?_) (fun c36 => ?_)
              · exact join_135.out (bZ (frK S false ((t : Nat) : Int) i)) _ (by rw [fr_end hib (by first | exact Or.inl (by omega) | exact Or.inr (by grind [bZ]))]) (lv_sub hl [1, 3, 4, 5, 6, 7] rfl)
              · refine g_iload_n X dX1_bandOf_39 rfl hl 7 rfl ?_
                refine g_if_ne X dX1_bandOf_40 (tgt := 48) (by decide) (by omega) (fun c40 => ?_) (fun c40 => ?_)
                · refine g_aload_n X dX1_bandOf_48 rfl hl 5 rfl ?_
                  refine g_get X hk (v := .ref (ad 7 0)) in_X1 rfl (GP.X hP) 0 (by decide) q142 (rfl) dX1_bandOf_49 ?_
                  refine g_alenQ X hk (n := (gN S)) (GP.Q hP) rfl dX1_bandOf_52 ?_
                  refine g_iconst X dX1_bandOf_53 ?_
                  refine g_isub X dX1_bandOf_54 ?_
                  refine g_iload X dX1_bandOf_55 hl 0 rfl ?_
                  refine g_isub X dX1_bandOf_57 ?_
                  refine g_istore (lv' := [(8, .int (iI (((((gN S) : Nat) : Int) - 1) - ((i : Nat) : Int)))), (7, .int (iI ((i : Nat) : Int))), (6, .int (iI (bZ (frK S false ((t : Nat) : Int) i)))), (5, .int (iI (atK S false ((t : Nat) : Int) i))), (4, .int (iI ((t : Nat) : Int))), (3, .int (iI (bnK S false t))), (0, .ref (ad 6 0)), (1, .ref q), (2, .int (iI 1))]) X dX1_bandOf_58 hl (by decide) rfl (fun ls hl => ?_)
                  have ev8 : (((((gN S) : Nat) : Int) - 1) - ((i : Nat) : Int)) = (((gN S - 1 - i) : Nat) : Int) := by omega
                  rw [ev8] at hl
                  have hl : lv_has ls 10 [(8, .int (iI (((gN S - 1 - i) : Nat) : Int))), (7, .int (iI ((i : Nat) : Int))), (6, .int (iI (bZ (frK S false ((t : Nat) : Int) i)))), (5, .int (iI (atK S false ((t : Nat) : Int) i))), (4, .int (iI ((t : Nat) : Int))), (3, .int (iI (bnK S false t))), (0, .ref (ad 6 0)), (1, .ref q), (2, .int (iI 1))] := hl
                  refine g_aload_n X dX1_bandOf_60 rfl hl 7 rfl ?_
                  refine g_iconst X dX1_bandOf_61 ?_
                  refine g_iload X dX1_bandOf_62 hl 0 rfl ?_
                  refine g_imul X dX1_bandOf_64 ?_
                  refine g_iload_n X dX1_bandOf_65 rfl hl 8 rfl ?_
                  refine g_iadd X dX1_bandOf_66 ?_
                  obtain ⟨ra, hf1, hra, hne, hrow⟩ := hM.2.2 (2 * (gN S - 1 - i) + 1) (by omega)
                  refine g_aald X hk (j := 2 * (gN S - 1 - i) + 1) (n := 2 * gN S) (q := ra) hM.2.1 (cA := 5) rfl rfl (by omega) (by omega) (hf1) dX1_bandOf_67 ?_
                  refine g_aload_n X dX1_bandOf_68 rfl hl 6 rfl ?_
                  refine g_get X hk (v := .ref (ad 7 0)) in_X1 rfl (GP.X hP) 0 (by decide) q142 (rfl) dX1_bandOf_69 ?_
                  refine g_iload X dX1_bandOf_72 hl 0 rfl ?_
                  refine g_aald X hk (j := (gN S - 1 - i)) (n := (gN S)) (q := (ad 0 (gN S - 1 - i))) (GP.Q hP) (cA := 1) rfl rfl (by omega) (by omega) (rfl) dX1_bandOf_74 ?_
                  refine g_iload X dX1_bandOf_75 hl 3 rfl ?_
                  refine g_pV X hk (As := [.int (iI (atK S false ((t : Nat) : Int) i))]) (rest := [.ref ra]) rfl (GP.J hP (by omega)) (p_placeIn l E ad S s.heap hP hI (gN S - 1 - i) (by omega) (atK S false ((t : Nat) : Int) i) (by omega)) 1 (lw_V q442 q443 q444 q47 q445) (by decide +kernel) ⟨⟨Nat.le_of_ble_eq_true rfl, Nat.le_of_ble_eq_true rfl⟩, Nat.le_of_ble_eq_true rfl, Nat.le_of_ble_eq_true rfl⟩ rfl rfl hl.1 (Nat.le_of_ble_eq_true rfl) dX1_bandOf_77 ?_
                  have hem := em_b (atK S false ((t : Nat) : Int) i - gOff S (gN S - 1 - i)) (gCyc S) hc.1
                  refine g_baldv X hk (j := ((((atK S false ((t : Nat) : Int) i) - gOff S (gN S - 1 - i)) % gCyc S)).toNat) (n := (gCyc S).toNat) (f := (fun p : Nat => bZ (gAtP S ((2 * (gN S - 1 - i) + 1) / 2) (((2 * (gN S - 1 - i) + 1) % 2 : Nat) : Int) (p : Int)))) (v := (bZ (gAt S (gN S - 1 - i) 1 (atK S false ((t : Nat) : Int) i)))) hrow (by omega) (by omega) (mg_el (m := 1) (by decide) (by omega)) dX1_bandOf_80 ?_
                  have hz81 := bZ_le (gAt S (gN S - 1 - i) 1 (atK S false ((t : Nat) : Int) i))
                  refine g_istore (lv' := [(6, .int (iI (bZ (gAt S (gN S - 1 - i) 1 (atK S false ((t : Nat) : Int) i))))), (8, .int (iI (((gN S - 1 - i) : Nat) : Int))), (7, .int (iI ((i : Nat) : Int))), (5, .int (iI (atK S false ((t : Nat) : Int) i))), (4, .int (iI ((t : Nat) : Int))), (3, .int (iI (bnK S false t))), (0, .ref (ad 6 0)), (1, .ref q), (2, .int (iI 1))]) X dX1_bandOf_81 hl (by decide) rfl (fun ls hl => ?_)
                  refine g_iload_n X dX1_bandOf_83 rfl hl 8 rfl ?_
                  refine g_if_ne X dX1_bandOf_84 (tgt := 92) (by decide) (by omega) (fun c84 => ?_) (fun c84 => ?_)
                  · refine g_iload X dX1_bandOf_92 hl 1 rfl ?_
                    refine g_iconst X dX1_bandOf_94 ?_
                    refine g_isub X dX1_bandOf_95 ?_
                    refine g_istore (lv' := [(9, .int (iI ((((gN S - 1 - i) : Nat) : Int) - 1))), (6, .int (iI (bZ (gAt S (gN S - 1 - i) 1 (atK S false ((t : Nat) : Int) i))))), (8, .int (iI (((gN S - 1 - i) : Nat) : Int))), (7, .int (iI ((i : Nat) : Int))), (5, .int (iI (atK S false ((t : Nat) : Int) i))), (4, .int (iI ((t : Nat) : Int))), (3, .int (iI (bnK S false t))), (0, .ref (ad 6 0)), (1, .ref q), (2, .int (iI 1))]) X dX1_bandOf_96 hl (by decide) rfl (fun ls hl => ?_)
                    have join_126 : gHide (∀ (z : Int) (ls : Array Slot), z = (lkK S false i) → lv_has ls 10 [(6, .int (iI (bZ (gAt S (gN S - 1 - i) 1 (atK S false ((t : Nat) : Int) i))))), (8, .int (iI (((gN S - 1 - i) : Nat) : Int))), (7, .int (iI ((i : Nat) : Int))), (5, .int (iI (atK S false ((t : Nat) : Int) i))), (4, .int (iI ((t : Nat) : Int))), (3, .int (iI (bnK S false t))), (0, .ref (ad 6 0)), (1, .ref q), (2, .int (iI 1))] → W P_ l e_ (gR 2 0 0) s M_ ([.ref (ad 6 0), .ref q, .int (iI 1)] : List Value).toArray bl mt_ c_ s.heap [] 0 0 (MQ bl (QcRead (iI (bnd S false))) ([.ref (ad 6 0), .ref q, .int (iI 1)] : List Value).toArray s 0 0 (fun _ => False)) (F0 M_ 126 ls [.int (iI z), .int (iI (atK S false ((t : Nat) : Int) i))])) := by
                      intro z ls e_z hl
                      subst e_z
                      have hl : lv_has ls 10 [(6, .int (iI (bZ (gAt S (gN S - 1 - i) 1 (atK S false ((t : Nat) : Int) i))))), (8, .int (iI (((gN S - 1 - i) : Nat) : Int))), (7, .int (iI ((i : Nat) : Int))), (5, .int (iI (atK S false ((t : Nat) : Int) i))), (4, .int (iI ((t : Nat) : Int))), (3, .int (iI (bnK S false t))), (0, .ref (ad 6 0)), (1, .ref q), (2, .int (iI 1))] := hl
                      refine g_iadd X dX1_bandOf_126 ?_
                      refine g_istore (lv' := [(5, .int (iI ((atK S false ((t : Nat) : Int) i) + (lkK S false i)))), (6, .int (iI (bZ (gAt S (gN S - 1 - i) 1 (atK S false ((t : Nat) : Int) i))))), (8, .int (iI (((gN S - 1 - i) : Nat) : Int))), (7, .int (iI ((i : Nat) : Int))), (4, .int (iI ((t : Nat) : Int))), (3, .int (iI (bnK S false t))), (0, .ref (ad 6 0)), (1, .ref q), (2, .int (iI 1))]) X dX1_bandOf_127 hl (by decide) rfl (fun ls hl => ?_)
                      refine g_iinc (lv' := [(7, .int (iI (((i : Nat) : Int) + 1))), (5, .int (iI ((atK S false ((t : Nat) : Int) i) + (lkK S false i)))), (6, .int (iI (bZ (gAt S (gN S - 1 - i) 1 (atK S false ((t : Nat) : Int) i))))), (8, .int (iI (((gN S - 1 - i) : Nat) : Int))), (4, .int (iI ((t : Nat) : Int))), (3, .int (iI (bnK S false t))), (0, .ref (ad 6 0)), (1, .ref q), (2, .int (iI 1))]) X dX1_bandOf_129 hl (k := 3) rfl (by decide) rfl (fun ls hl => ?_)
                      refine g_goto X dX1_bandOf_132 (tgt := 24) (by decide) ?_
                      exact ih_24.out (i + 1) (((i : Nat) : Int) + 1) (bZ (gAt S (gN S - 1 - i) 1 (atK S false ((t : Nat) : Int) i))) ((atK S false ((t : Nat) : Int) i) + (lkK S false i)) (by omega) (by omega) (by rw [frF_s S _ i (by grind [bZ])]) (rfl) (by omega) _ (lv_sub hl [0, 2, 1, 4, 5, 6, 7, 8] rfl)
                    refine g_iload X dX1_bandOf_98 hl 4 rfl ?_
                    refine g_iload X dX1_bandOf_100 hl 3 rfl ?_
                    refine g_aload_n X dX1_bandOf_102 rfl hl 7 rfl ?_
                    refine g_get X hk (v := .ref (ad 7 0)) in_X1 rfl (GP.X hP) 0 (by decide) q142 (rfl) dX1_bandOf_103 ?_
                    refine g_alenQ X hk (n := (gN S)) (GP.Q hP) rfl dX1_bandOf_106 ?_
                    refine g_iconst X dX1_bandOf_107 ?_
                    refine g_isub X dX1_bandOf_108 ?_
                    refine g_icmp_ge X dX1_bandOf_109 (tgt := 125) (by decide) (by omega) (fun c109 => ?_) (fun c109 => ?_)
                    · refine g_iconst X dX1_bandOf_125 ?_
                      exact join_126.out 0 _ (by unfold lkK; grind) (lv_sub hl [1, 2, 3, 4, 5, 6, 7, 8, 9] rfl)
                    · refine g_aload_n X dX1_bandOf_112 rfl hl 7 rfl ?_
                      refine g_get X hk (v := .ref (ad 7 0)) in_X1 rfl (GP.X hP) 0 (by decide) q142 (rfl) dX1_bandOf_113 ?_
                      refine g_iload X dX1_bandOf_116 hl 0 rfl ?_
                      refine g_aald X hk (j := (gN S - 2 - i)) (n := (gN S)) (q := (ad 0 (gN S - 2 - i))) (GP.Q hP) (cA := 1) rfl rfl (by omega) (by omega) (rfl) dX1_bandOf_118 ?_
                      refine g_getN X hk (v := .int (iI (gLnk S (gN S - 2 - i)))) (host := "Greenwave") in_X2 rfl (GP.J hP (by omega)) 5 (by decide) 5 rfl (rfl) dX1_bandOf_119 ?_
                      refine g_goto X dX1_bandOf_122 (tgt := 126) (by decide) ?_
                      exact join_126.out (gLnk S (gN S - 2 - i)) _ (by unfold lkK; grind) (lv_sub hl [1, 2, 3, 4, 5, 6, 7, 8, 9] rfl)
                  · exact absurd c84 (by decide)
                · exact absurd c40 (by decide)
        exact loop_24.out (gN S + 1) 0 0 1 ((t : Nat) : Int) (by omega) (rfl) (rfl) (rfl) (by omega) _ (lv_sub hl [0, 1, 2, 3, 4, 5, 6, 7] rfl)
  exact loop_5.out ((gCyc S).toNat + 1) 0 0 0 (by omega) (rfl) (rfl) (by omega) _ (lv_sub hl [0, 1, 2, 3, 4] rfl)
set_option maxHeartbeats 4000000 in
theorem p_bands (l : Launch) (E : EP) (ad : Nat → Nat → Nat) (S : GS) (s0 b q : Nat) (f : Nat → Option Nat) (H : Heap) (hP : GP E ad S H) (hI : gI S) (hM : mgK E S s0 b q f (2 * gN S) H) : gP l E yX1_bands cX1_bands 2 .int 3 H [.ref (ad 6 0), .ref q] (bns S) := by
  refine g_met (plainFor_of_name (by decide)) (Nat.le_of_ble_eq_true rfl) (fun P_ e_ s M_ bl mt_ c_ ls X _ hk hh hl => ?_)
  subst hh
  have X : gX P_ s M_ mt_ c_ cX1_bands 2 ([.ref (ad 6 0), .ref q] : List Value).toArray RX1 (some .int) := X
  have hl : lv_has ls 2 [(0, .ref (ad 6 0)), (1, .ref q)] := hl
  have hn5 := hI.1.1
  have hc := hI.2.1
  refine g_aload_n X dX1_bands_0 rfl hl 0 rfl ?_
  refine g_aload_n X dX1_bands_1 rfl hl 1 rfl ?_
  refine g_iconst X dX1_bands_2 ?_
  refine g_pV X hk (As := [.ref q, .int (iI 0)]) (rest := []) rfl (GP.X hP) (p_bandOfT l E ad S _ _ _ _ s.heap hP hI hM) 2 (lw_V q438 q440 qs10 q46 q441) (by decide +kernel) ⟨⟨Nat.le_of_ble_eq_true rfl, Nat.le_of_ble_eq_true rfl⟩, Nat.le_of_ble_eq_true rfl, Nat.le_of_ble_eq_true rfl⟩ rfl rfl hl.1 (Nat.le_of_ble_eq_true rfl) dX1_bands_3 ?_
  refine g_aload_n X dX1_bands_6 rfl hl 0 rfl ?_
  refine g_aload_n X dX1_bands_7 rfl hl 1 rfl ?_
  refine g_iconst X dX1_bands_8 ?_
  refine g_pV X hk (As := [.ref q, .int (iI 1)]) (rest := [.int (iI (bnd S true))]) rfl (GP.X hP) (p_bandOfF l E ad S _ _ _ _ s.heap hP hI hM) 2 (lw_V q438 q440 qs10 q46 q441) (by decide +kernel) ⟨⟨Nat.le_of_ble_eq_true rfl, Nat.le_of_ble_eq_true rfl⟩, Nat.le_of_ble_eq_true rfl, Nat.le_of_ble_eq_true rfl⟩ rfl rfl hl.1 (Nat.le_of_ble_eq_true rfl) dX1_bands_9 ?_
  refine g_iadd X dX1_bands_12 ?_
  exact g_iretP X (rfl) dX1_bands_13
theorem alP_L {S : GS} (h : alP S (gN S) = true) : ∀ j, j < gN S → 0 ≤ lft S j := (alP_iff S (gN S)).mp h
set_option maxHeartbeats 4000000 in
theorem p_bandT (l : Launch) (E : EP) (hst : l.stackTraces = false) (ad : Nat → Nat → Nat) (S : GS) (H : Heap) (hP : GP E ad S H) (hI : gI S) : gCi l E yX1_band cX1_band 2 .int 8 22 956 H [.ref (ad 6 0), .int (iI 1)] (nA H) (fun z H1 => erD S = 0 ∧ z = bnd S true ∧ GP E ad S H1) (xC (erD S) [nSt]) := by
  refine g_metX (by decide) (Nat.le_of_ble_eq_true rfl) (fun P_ e_ s M_ bl mt_ c_ ls X hno_ hk hh hl => ?_)
  subst hh
  have X : gX P_ s M_ mt_ c_ cX1_band 2 ([.ref (ad 6 0), .int (iI 1)] : List Value).toArray RX1 (some .int) := X
  have hl : lv_has ls 2 [(0, .ref (ad 6 0)), (1, .int (iI 1))] := hl
  have hS : va_S (nA s.heap) s.heap s.heap [] := va_S.rf
  have hN0 : eN E ≤ s.heap.size := hk.N
  have hA0_ := GP.lts hP
  have hn5 := hI.1.1
  have hc := hI.2.1
  refine g_aload_n X dX1_band_0 rfl hl 0 rfl ?_
  refine g_xcallvE (g_xrunV X hk (As := []) (rest := []) rfl (GP.X hP) (p_requirePlans l E hst ad S s.heap hP hI) 0 (lw_V q392 q394 qs5 q46 q395) (by decide +kernel) ⟨⟨Nat.le_of_ble_eq_true rfl, Nat.le_of_ble_eq_true rfl⟩, Nat.le_of_ble_eq_true rfl, Nat.le_of_ble_eq_true rfl⟩ rfl rfl hl.1 (Nat.le_of_ble_eq_true rfl) dX1_band_1) X hno_ hk hS (fun q h => Nat.le_trans hS.1 h) (fun q h => Nat.le_trans hk.N h) (fun q h => h) (fun Ex h => h) ⟨Nat.le_of_ble_eq_true rfl, Nat.le_of_ble_eq_true rfl⟩ (fun locs hB1 hS => ?_)
  have hLs := alP_L hB1
  have hz : erD S = 0 := by unfold erD; rw [if_pos hB1]
  refine g_aload_n X dX1_band_4 rfl hl 0 rfl ?_
  refine g_aload_n X dX1_band_5 rfl hl 0 rfl ?_
  have hs0_ := hS.1
  refine g_callr (g_runV X hk (As := []) (rest := [.ref (ad 6 0)]) rfl (GP.X hP) (p_mainGreens l E ad S s.heap hP hI hLs) 0 (lw_V q411 q413 qs6 q46 q414) (by decide +kernel) ⟨⟨Nat.le_of_ble_eq_true rfl, Nat.le_of_ble_eq_true rfl⟩, Nat.le_of_ble_eq_true rfl, Nat.le_of_ble_eq_true rfl⟩ rfl rfl hl.1 (Nat.le_of_ble_eq_true rfl) dX1_band_6) hk hS (fun q h => Nat.le_trans hS.1 h) (fun q h => Nat.le_trans hk.N h) (fun q6 H locs hP_ hk hz_ ho_ hS => ?_)
  replace ho_ := lk_nA (fun q h => h) ho_
  obtain ⟨f_, hM⟩ := hP_
  have lk_ := lk_new (s0 := s.heap.size) ho_
  have hP := GP.new hP ho_
  refine g_iload_n X dX1_band_9 rfl hl 1 rfl ?_
  refine g_if_eq X dX1_band_10 (tgt := 17) (by decide) (by omega) (fun c10 => ?_) (fun c10 => ?_)
  · exact absurd c10 (by decide)
  · refine g_iconst X dX1_band_13 ?_
    refine g_goto X dX1_band_14 (tgt := 18) (by decide) ?_
    refine g_pV X hk (As := [.ref q6, .int (iI 0)]) (rest := []) rfl (GP.X hP) (p_bandOfT l E ad S _ _ _ _ H hP hI hM) 2 (lw_V q438 q440 qs10 q46 q441) (by decide +kernel) ⟨⟨Nat.le_of_ble_eq_true rfl, Nat.le_of_ble_eq_true rfl⟩, Nat.le_of_ble_eq_true rfl, Nat.le_of_ble_eq_true rfl⟩ rfl rfl hl.1 (Nat.le_of_ble_eq_true rfl) dX1_band_18 ?_
    exact vx_ret (g_iret X hS (⟨hz, rfl, hP⟩) ⟨Nat.le_of_ble_eq_true rfl, Nat.le_of_ble_eq_true rfl⟩ dX1_band_21)
set_option maxHeartbeats 4000000 in
theorem p_bandF (l : Launch) (E : EP) (hst : l.stackTraces = false) (ad : Nat → Nat → Nat) (S : GS) (H : Heap) (hP : GP E ad S H) (hI : gI S) : gCi l E yX1_band cX1_band 2 .int 8 22 956 H [.ref (ad 6 0), .int (iI 0)] (nA H) (fun z H1 => erD S = 0 ∧ z = bnd S false ∧ GP E ad S H1) (xC (erD S) [nSt]) := by
  refine g_metX (by decide) (Nat.le_of_ble_eq_true rfl) (fun P_ e_ s M_ bl mt_ c_ ls X hno_ hk hh hl => ?_)
  subst hh
  have X : gX P_ s M_ mt_ c_ cX1_band 2 ([.ref (ad 6 0), .int (iI 0)] : List Value).toArray RX1 (some .int) := X
  have hl : lv_has ls 2 [(0, .ref (ad 6 0)), (1, .int (iI 0))] := hl
  have hS : va_S (nA s.heap) s.heap s.heap [] := va_S.rf
  have hN0 : eN E ≤ s.heap.size := hk.N
  have hA0_ := GP.lts hP
  have hn5 := hI.1.1
  have hc := hI.2.1
  refine g_aload_n X dX1_band_0 rfl hl 0 rfl ?_
  refine g_xcallvE (g_xrunV X hk (As := []) (rest := []) rfl (GP.X hP) (p_requirePlans l E hst ad S s.heap hP hI) 0 (lw_V q392 q394 qs5 q46 q395) (by decide +kernel) ⟨⟨Nat.le_of_ble_eq_true rfl, Nat.le_of_ble_eq_true rfl⟩, Nat.le_of_ble_eq_true rfl, Nat.le_of_ble_eq_true rfl⟩ rfl rfl hl.1 (Nat.le_of_ble_eq_true rfl) dX1_band_1) X hno_ hk hS (fun q h => Nat.le_trans hS.1 h) (fun q h => Nat.le_trans hk.N h) (fun q h => h) (fun Ex h => h) ⟨Nat.le_of_ble_eq_true rfl, Nat.le_of_ble_eq_true rfl⟩ (fun locs hB1 hS => ?_)
  have hLs := alP_L hB1
  have hz : erD S = 0 := by unfold erD; rw [if_pos hB1]
  refine g_aload_n X dX1_band_4 rfl hl 0 rfl ?_
  refine g_aload_n X dX1_band_5 rfl hl 0 rfl ?_
  have hs0_ := hS.1
  refine g_callr (g_runV X hk (As := []) (rest := [.ref (ad 6 0)]) rfl (GP.X hP) (p_mainGreens l E ad S s.heap hP hI hLs) 0 (lw_V q411 q413 qs6 q46 q414) (by decide +kernel) ⟨⟨Nat.le_of_ble_eq_true rfl, Nat.le_of_ble_eq_true rfl⟩, Nat.le_of_ble_eq_true rfl, Nat.le_of_ble_eq_true rfl⟩ rfl rfl hl.1 (Nat.le_of_ble_eq_true rfl) dX1_band_6) hk hS (fun q h => Nat.le_trans hS.1 h) (fun q h => Nat.le_trans hk.N h) (fun q6 H locs hP_ hk hz_ ho_ hS => ?_)
  replace ho_ := lk_nA (fun q h => h) ho_
  obtain ⟨f_, hM⟩ := hP_
  have lk_ := lk_new (s0 := s.heap.size) ho_
  have hP := GP.new hP ho_
  refine g_iload_n X dX1_band_9 rfl hl 1 rfl ?_
  refine g_if_eq X dX1_band_10 (tgt := 17) (by decide) (by omega) (fun c10 => ?_) (fun c10 => ?_)
  · refine g_iconst X dX1_band_17 ?_
    refine g_pV X hk (As := [.ref q6, .int (iI 1)]) (rest := []) rfl (GP.X hP) (p_bandOfF l E ad S _ _ _ _ H hP hI hM) 2 (lw_V q438 q440 qs10 q46 q441) (by decide +kernel) ⟨⟨Nat.le_of_ble_eq_true rfl, Nat.le_of_ble_eq_true rfl⟩, Nat.le_of_ble_eq_true rfl, Nat.le_of_ble_eq_true rfl⟩ rfl rfl hl.1 (Nat.le_of_ble_eq_true rfl) dX1_band_18 ?_
    exact vx_ret (g_iret X hS (⟨hz, rfl, hP⟩) ⟨Nat.le_of_ble_eq_true rfl, Nat.le_of_ble_eq_true rfl⟩ dX1_band_21)
  · exact absurd c10 (by decide)
