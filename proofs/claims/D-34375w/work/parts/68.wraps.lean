/-! the law's wrappers -/
theorem gW_ne {n : Nat} {ad : Nat → Nat → Nat} {H : Heap} {q ob : Nat} (h : gW n ad H q) (hOA : ∀ k i, gv n k i → ad k i ≠ ob) (hlt : ob < H.size) : q ≠ ob := by
  rcases h with ⟨k, i, hv, e⟩ | h
  · rw [e]; exact hOA k i hv
  · omega
theorem gW_no {n : Nat} {ad : Nat → Nat → Nat} {H : Heap} {ob : Nat} (hOA : ∀ k i, gv n k i → ad k i ≠ ob) (hlt : ob < H.size) : ¬ gW n ad H ob := fun h => gW_ne h hOA hlt rfl
theorem lg_s (g : Nat → Int64) (x : Int64) : vp_updL g 0 x 0 = x := by simp [vp_updL]
set_option maxHeartbeats 4000000 in
theorem w_begin (l : Launch) (E : EP) (hst : l.stackTraces = false) (ad : Nat → Nat → Nat) (S : GS) (n c : Int) (H : Heap) (hP : GP E ad S H) (hI : gI S) (hn : -2147483648 ≤ n ∧ n ≤ 2147483647) (hc : -2147483648 ≤ c ∧ c ≤ 2147483647) : gWi l E yX0_begin cX0_begin 4 [(0, 6, 9, 13)] 10 33 510 H [.ref (ad 6 0), .int (iI n), .int (iI c)] (gW (gN S) ad H) (wrN E ad S H (erB n c) (gBeg n.toNat c)) := by
  refine g_metH (by decide) (Nat.le_of_ble_eq_true rfl) (fun P_ e_ s M_ bl mt_ c_ ls X htab hk hh hl => ?_)
  subst hh
  have X : gX P_ s M_ mt_ c_ cX0_begin 4 ([.ref (ad 6 0), .int (iI n), .int (iI c)] : List Value).toArray RX0 (some .int) := X
  have hl : lv_has ls 4 [(0, .ref (ad 6 0)), (1, .int (iI n)), (2, .int (iI c))] := hl
  have hS : va_S (gW (gN S) ad s.heap) s.heap s.heap [] := va_S.rf
  refine g_aload_n X dX0_begin_0 rfl hl 0 rfl ?_
  refine g_iload_n X dX0_begin_1 rfl hl 1 rfl ?_
  refine g_iload_n X dX0_begin_2 rfl hl 2 rfl ?_
  refine g_wcallv (g_xrunV X hk (As := [.int (iI n), .int (iI c)]) (rest := []) rfl (GP.X hP) (p_begin l E hst ad S n c s.heap hP hI hn hc) 2 (lw_V q181 q182 q183 q46 q184) (by decide +kernel) ⟨⟨Nat.le_of_ble_eq_true rfl, Nat.le_of_ble_eq_true rfl⟩, Nat.le_of_ble_eq_true rfl, Nat.le_of_ble_eq_true rfl⟩ rfl rfl hl.1 (Nat.le_of_ble_eq_true rfl) dX0_begin_3) hk hS (fun q h => h) (GP.N hP hk.N) (fun k nm cel q H locs hE hm hk ho_ hS hce hcv hcl => ?_) (fun H locs hP_ hk hz_ ho_ hS => ?_)
  · have hP := hP.new ho_
    rcases k with _ | k
    · obtain rfl : nm = nAr := (Option.some.inj hm).symm
      refine vx_catch (own := RX0) (name := nAr) X.1.2.2.2.1 (tableOf []) ⟨0, 6, 9, 13⟩ (tableOf []) htab (fun z hz => nomatch hz) (by decide) (by decide) (X.1.2.2.2.2 _ q180) (va_Nw.use rfl (hk.ev.2.2.1 _ (List.mem_of_getElem? (i := 1) rfl))) hce hcv hcl ?_
      refine g_astore_n (lv' := [(3, .ref q), (0, .ref (ad 6 0)), (1, .int (iI n)), (2, .int (iI c))]) X dX0_begin_9 rfl hl (by decide) rfl (fun ls hl => ?_)
      refine g_iconst X dX0_begin_10 ?_
      exact vx_ret (g_iret X hS (wrN.no hE hP rfl) ⟨Nat.le_of_ble_eq_true rfl, Nat.le_of_ble_eq_true rfl⟩ dX0_begin_11)
    · cases hm
  · obtain ⟨he, ad1, hP1, hW1⟩ := hP_
    refine g_goto X dX0_begin_6 (tgt := 12) (by decide) ?_
    refine g_iconst X dX0_begin_12 ?_
    exact vx_ret (g_iret X hS (wrN.ok he hP1 hW1 rfl) ⟨Nat.le_of_ble_eq_true rfl, Nat.le_of_ble_eq_true rfl⟩ dX0_begin_13)
set_option maxHeartbeats 4000000 in
theorem w_setConflict (l : Launch) (E : EP) (hst : l.stackTraces = false) (ad : Nat → Nat → Nat) (S : GS) (ob : Nat) (og : Nat → Int64) (j a b x : Int) (H : Heap) (hP : GP E ad S H) (hI : gI S) (hj : -2147483648 ≤ j ∧ j ≤ 2147483647) (ha : -2147483648 ≤ a ∧ a ≤ 2147483647) (hb : -2147483648 ≤ b ∧ b ≤ 2147483647) (hx : -2147483648 ≤ x ∧ x ≤ 2147483647) (hO : ce E ob (aL E 1 og) H) (hOA : ∀ k i, gv (gN S) k i → ad k i ≠ ob) (hoN : eN E ≤ ob) : gWi l E yX0_setConflict cX0_setConflict 7 [(0, 14, 17, 19), (0, 14, 21, 13), (0, 14, 25, 21)] 10 5 32 H [.ref (ad 6 0), .int (iI j), .int (iI a), .int (iI b), .int (iI x), .ref ob] (oW (gN S) ad ob H) (wrO E ad S ob H (erC S j a b x) (gset (gset S 1 (j.toNat) (4 * a.toNat + b.toNat) x) 1 (j.toNat) (4 * b.toNat + a.toNat) x) (gCf S (j.toNat) (4 * a.toNat + b.toNat))) := by
  refine g_metH (by decide) (Nat.le_of_ble_eq_true rfl) (fun P_ e_ s M_ bl mt_ c_ ls X htab hk hh hl => ?_)
  subst hh
  have X : gX P_ s M_ mt_ c_ cX0_setConflict 7 ([.ref (ad 6 0), .int (iI j), .int (iI a), .int (iI b), .int (iI x), .ref ob] : List Value).toArray RX0 (some .int) := X
  have hl : lv_has ls 7 [(0, .ref (ad 6 0)), (1, .int (iI j)), (2, .int (iI a)), (3, .int (iI b)), (4, .int (iI x)), (5, .ref ob)] := hl
  have hS : va_S (oW (gN S) ad ob s.heap) s.heap s.heap [] := va_S.rf
  refine g_aload X dX0_setConflict_0 hl 5 rfl ?_
  refine g_iconst X dX0_setConflict_2 ?_
  refine g_aload_n X dX0_setConflict_3 rfl hl 0 rfl ?_
  refine g_iload_n X dX0_setConflict_4 rfl hl 1 rfl ?_
  refine g_iload_n X dX0_setConflict_5 rfl hl 2 rfl ?_
  refine g_iload_n X dX0_setConflict_6 rfl hl 3 rfl ?_
  refine g_iload X dX0_setConflict_7 hl 4 rfl ?_
  have hol := hO.lt
  refine g_wcalli (g_xrunV X hk (As := [.int (iI j), .int (iI a), .int (iI b), .int (iI x)]) (rest := [.int (iI 0), .ref ob]) rfl (GP.X hP) (p_setConflict l E hst ad S j a b x s.heap hP hI hj ha hb hx) 4 (lw_V q293 q294 q295 q46 q296) (by decide +kernel) ⟨⟨Nat.le_of_ble_eq_true rfl, Nat.le_of_ble_eq_true rfl⟩, Nat.le_of_ble_eq_true rfl, Nat.le_of_ble_eq_true rfl⟩ rfl rfl hl.1 (Nat.le_of_ble_eq_true rfl) dX0_setConflict_9) hk hS (fun q h => Or.inl h) (GP.N hP hk.N) (fun k nm cel q H locs hE hm hk ho_ hS hce hcv hcl => ?_) (fun z H locs hP_ hk hz_ ho_ hS => ?_)
  · have hP := hP.new ho_
    have hO := hO.kept (ho_ ob hO.lt)
    rcases k with _ | _ | _ | k
    · obtain rfl : nm = nIx := (Option.some.inj hm).symm
      refine vx_catch (own := RX0) (name := nIx) X.1.2.2.2.1 (tableOf []) ⟨0, 14, 17, 19⟩ (tableOf [(0, 14, 21, 13), (0, 14, 25, 21)]) htab (fun z hz => nomatch hz) (by decide) (by decide) (X.1.2.2.2.2 _ q259) (va_Nw.use rfl (hk.ev.2.2.1 _ (List.mem_of_getElem? (i := 2) rfl))) hce hcv hcl ?_
      refine g_astore (lv' := [(6, .ref q), (0, .ref (ad 6 0)), (1, .int (iI j)), (2, .int (iI a)), (3, .int (iI b)), (4, .int (iI x)), (5, .ref ob)]) X dX0_setConflict_17 hl (by decide) rfl (fun ls hl => ?_)
      refine g_iconst X dX0_setConflict_19 ?_
      exact vx_ret (g_iret X hS (wrO.no hE hP hO rfl) ⟨Nat.le_of_ble_eq_true rfl, Nat.le_of_ble_eq_true rfl⟩ dX0_setConflict_20)
    · obtain rfl : nm = nAr := (Option.some.inj hm).symm
      refine vx_catch (own := RX0) (name := nAr) X.1.2.2.2.1 (tableOf [(0, 14, 17, 19)]) ⟨0, 14, 21, 13⟩ (tableOf [(0, 14, 25, 21)]) htab (fun z hz => by rcases List.mem_singleton.mp hz with rfl; exact Or.inr ⟨by decide, nIx, X.1.2.2.2.2 _ q259, hk.ev.2.2.2.2.1 _ (List.mem_of_getElem? (i := 1) rfl)⟩) (by decide) (by decide) (X.1.2.2.2.2 _ q180) (va_Nw.use rfl (hk.ev.2.2.1 _ (List.mem_of_getElem? (i := 1) rfl))) hce hcv hcl ?_
      refine g_astore (lv' := [(6, .ref q), (0, .ref (ad 6 0)), (1, .int (iI j)), (2, .int (iI a)), (3, .int (iI b)), (4, .int (iI x)), (5, .ref ob)]) X dX0_setConflict_21 hl (by decide) rfl (fun ls hl => ?_)
      refine g_iconst X dX0_setConflict_23 ?_
      exact vx_ret (g_iret X hS (wrO.no hE hP hO rfl) ⟨Nat.le_of_ble_eq_true rfl, Nat.le_of_ble_eq_true rfl⟩ dX0_setConflict_24)
    · obtain rfl : nm = nSt := (Option.some.inj hm).symm
      refine vx_catch (own := RX0) (name := nSt) X.1.2.2.2.1 (tableOf [(0, 14, 17, 19), (0, 14, 21, 13)]) ⟨0, 14, 25, 21⟩ (tableOf []) htab (fun z hz => by rcases List.mem_cons.mp hz with rfl | hz; exact Or.inr ⟨by decide, nIx, X.1.2.2.2.2 _ q259, hk.ev.2.2.2.2.1 _ (List.mem_of_getElem? (i := 3) rfl)⟩; rcases List.mem_singleton.mp hz with rfl; exact Or.inr ⟨by decide, nAr, X.1.2.2.2.2 _ q180, hk.ev.2.2.2.2.1 _ (List.mem_of_getElem? (i := 2) rfl)⟩) (by decide) (by decide) (X.1.2.2.2.2 _ q292) (va_Nw.use rfl (hk.ev.2.2.1 _ (List.mem_of_getElem? (i := 3) rfl))) hce hcv hcl ?_
      refine g_astore (lv' := [(6, .ref q), (0, .ref (ad 6 0)), (1, .int (iI j)), (2, .int (iI a)), (3, .int (iI b)), (4, .int (iI x)), (5, .ref ob)]) X dX0_setConflict_25 hl (by decide) rfl (fun ls hl => ?_)
      refine g_iconst X dX0_setConflict_27 ?_
      exact vx_ret (g_iret X hS (wrO.no hE hP hO rfl) ⟨Nat.le_of_ble_eq_true rfl, Nat.le_of_ble_eq_true rfl⟩ dX0_setConflict_28)
    · cases hm
  · obtain ⟨he, hz, hP1⟩ := hP_
    subst hz
    have hW1 : adW (gN (gset (gset S 1 (j.toNat) (4 * a.toNat + b.toNat) x) 1 (j.toNat) (4 * b.toNat + a.toNat) x)) (gN S) ad s.heap ad := gW_rf
    have hO := hO.kept (ho_ ob hO.lt (gW_no hOA hO.lt))
    refine lv_i2l X.1.1 X.1.2.1 dX0_setConflict_12 (v := lI (gCf S (j.toNat) (4 * a.toNat + b.toNat))) rfl ?_
    refine g_last X hk hS ⟨Or.inr rfl, hoN⟩ hO (j := 0) rfl (by decide) dX0_setConflict_13 (fun H locs hO hk hz2_ ho_ hS => ?_)
    have hP1 := hP1.kept (fun k i hv => ho_ _ (gW_ne (hW1.2 k i hv) hOA hol))
    refine g_goto X dX0_setConflict_14 (tgt := 29) (by decide) ?_
    refine g_iconst X dX0_setConflict_29 ?_
    exact vx_ret (g_iret X hS (wrO.ok he hP1 hW1 hO (lg_s _ _) rfl) ⟨Nat.le_of_ble_eq_true rfl, Nat.le_of_ble_eq_true rfl⟩ dX0_setConflict_30)
set_option maxHeartbeats 4000000 in
theorem w_setPhases (l : Launch) (E : EP) (hst : l.stackTraces = false) (ad : Nat → Nat → Nat) (S : GS) (ob : Nat) (og : Nat → Int64) (j a b c d : Int) (H : Heap) (hP : GP E ad S H) (hI : gI S) (hj : -2147483648 ≤ j ∧ j ≤ 2147483647) (ha : -2147483648 ≤ a ∧ a ≤ 2147483647) (hb : -2147483648 ≤ b ∧ b ≤ 2147483647) (hc : -2147483648 ≤ c ∧ c ≤ 2147483647) (hd : -2147483648 ≤ d ∧ d ≤ 2147483647) (hO : ce E ob (aL E 1 og) H) (hOA : ∀ k i, gv (gN S) k i → ad k i ≠ ob) (hoN : eN E ≤ ob) : gWi l E yX0_setPhases cX0_setPhases 8 [(0, 16, 19, 19), (0, 16, 23, 13), (0, 16, 27, 21)] 10 5 32 H [.ref (ad 6 0), .int (iI j), .int (iI a), .int (iI b), .int (iI c), .int (iI d), .ref ob] (oW (gN S) ad ob H) (wrO E ad S ob H (erP S j a b c d) (gphs S (j.toNat) (phN4 b c d) (phF a b c d)) ((phN4 b c d : Int))) := by
  refine g_metH (by decide) (Nat.le_of_ble_eq_true rfl) (fun P_ e_ s M_ bl mt_ c_ ls X htab hk hh hl => ?_)
  subst hh
  have X : gX P_ s M_ mt_ c_ cX0_setPhases 8 ([.ref (ad 6 0), .int (iI j), .int (iI a), .int (iI b), .int (iI c), .int (iI d), .ref ob] : List Value).toArray RX0 (some .int) := X
  have hl : lv_has ls 8 [(0, .ref (ad 6 0)), (1, .int (iI j)), (2, .int (iI a)), (3, .int (iI b)), (4, .int (iI c)), (5, .int (iI d)), (6, .ref ob)] := hl
  have hS : va_S (oW (gN S) ad ob s.heap) s.heap s.heap [] := va_S.rf
  refine g_aload X dX0_setPhases_0 hl 6 rfl ?_
  refine g_iconst X dX0_setPhases_2 ?_
  refine g_aload_n X dX0_setPhases_3 rfl hl 0 rfl ?_
  refine g_iload_n X dX0_setPhases_4 rfl hl 1 rfl ?_
  refine g_iload_n X dX0_setPhases_5 rfl hl 2 rfl ?_
  refine g_iload_n X dX0_setPhases_6 rfl hl 3 rfl ?_
  refine g_iload X dX0_setPhases_7 hl 4 rfl ?_
  refine g_iload X dX0_setPhases_9 hl 5 rfl ?_
  have hol := hO.lt
  refine g_wcalli (g_xrunV X hk (As := [.int (iI j), .int (iI a), .int (iI b), .int (iI c), .int (iI d)]) (rest := [.int (iI 0), .ref ob]) rfl (GP.X hP) (p_setPhases l E hst ad S j a b c d s.heap hP hI hj ha hb hc hd) 5 (lw_V q351 q352 q353 q46 q354) (by decide +kernel) ⟨⟨Nat.le_of_ble_eq_true rfl, Nat.le_of_ble_eq_true rfl⟩, Nat.le_of_ble_eq_true rfl, Nat.le_of_ble_eq_true rfl⟩ rfl rfl hl.1 (Nat.le_of_ble_eq_true rfl) dX0_setPhases_11) hk hS (fun q h => Or.inl h) (GP.N hP hk.N) (fun k nm cel q H locs hE hm hk ho_ hS hce hcv hcl => ?_) (fun z H locs hP_ hk hz_ ho_ hS => ?_)
  · have hP := hP.new ho_
    have hO := hO.kept (ho_ ob hO.lt)
    rcases k with _ | _ | _ | k
    · obtain rfl : nm = nIx := (Option.some.inj hm).symm
      refine vx_catch (own := RX0) (name := nIx) X.1.2.2.2.1 (tableOf []) ⟨0, 16, 19, 19⟩ (tableOf [(0, 16, 23, 13), (0, 16, 27, 21)]) htab (fun z hz => nomatch hz) (by decide) (by decide) (X.1.2.2.2.2 _ q259) (va_Nw.use rfl (hk.ev.2.2.1 _ (List.mem_of_getElem? (i := 2) rfl))) hce hcv hcl ?_
      refine g_astore (lv' := [(7, .ref q), (0, .ref (ad 6 0)), (1, .int (iI j)), (2, .int (iI a)), (3, .int (iI b)), (4, .int (iI c)), (5, .int (iI d)), (6, .ref ob)]) X dX0_setPhases_19 hl (by decide) rfl (fun ls hl => ?_)
      refine g_iconst X dX0_setPhases_21 ?_
      exact vx_ret (g_iret X hS (wrO.no hE hP hO rfl) ⟨Nat.le_of_ble_eq_true rfl, Nat.le_of_ble_eq_true rfl⟩ dX0_setPhases_22)
    · obtain rfl : nm = nAr := (Option.some.inj hm).symm
      refine vx_catch (own := RX0) (name := nAr) X.1.2.2.2.1 (tableOf [(0, 16, 19, 19)]) ⟨0, 16, 23, 13⟩ (tableOf [(0, 16, 27, 21)]) htab (fun z hz => by rcases List.mem_singleton.mp hz with rfl; exact Or.inr ⟨by decide, nIx, X.1.2.2.2.2 _ q259, hk.ev.2.2.2.2.1 _ (List.mem_of_getElem? (i := 1) rfl)⟩) (by decide) (by decide) (X.1.2.2.2.2 _ q180) (va_Nw.use rfl (hk.ev.2.2.1 _ (List.mem_of_getElem? (i := 1) rfl))) hce hcv hcl ?_
      refine g_astore (lv' := [(7, .ref q), (0, .ref (ad 6 0)), (1, .int (iI j)), (2, .int (iI a)), (3, .int (iI b)), (4, .int (iI c)), (5, .int (iI d)), (6, .ref ob)]) X dX0_setPhases_23 hl (by decide) rfl (fun ls hl => ?_)
      refine g_iconst X dX0_setPhases_25 ?_
      exact vx_ret (g_iret X hS (wrO.no hE hP hO rfl) ⟨Nat.le_of_ble_eq_true rfl, Nat.le_of_ble_eq_true rfl⟩ dX0_setPhases_26)
    · obtain rfl : nm = nSt := (Option.some.inj hm).symm
      refine vx_catch (own := RX0) (name := nSt) X.1.2.2.2.1 (tableOf [(0, 16, 19, 19), (0, 16, 23, 13)]) ⟨0, 16, 27, 21⟩ (tableOf []) htab (fun z hz => by rcases List.mem_cons.mp hz with rfl | hz; exact Or.inr ⟨by decide, nIx, X.1.2.2.2.2 _ q259, hk.ev.2.2.2.2.1 _ (List.mem_of_getElem? (i := 3) rfl)⟩; rcases List.mem_singleton.mp hz with rfl; exact Or.inr ⟨by decide, nAr, X.1.2.2.2.2 _ q180, hk.ev.2.2.2.2.1 _ (List.mem_of_getElem? (i := 2) rfl)⟩) (by decide) (by decide) (X.1.2.2.2.2 _ q292) (va_Nw.use rfl (hk.ev.2.2.1 _ (List.mem_of_getElem? (i := 3) rfl))) hce hcv hcl ?_
      refine g_astore (lv' := [(7, .ref q), (0, .ref (ad 6 0)), (1, .int (iI j)), (2, .int (iI a)), (3, .int (iI b)), (4, .int (iI c)), (5, .int (iI d)), (6, .ref ob)]) X dX0_setPhases_27 hl (by decide) rfl (fun ls hl => ?_)
      refine g_iconst X dX0_setPhases_29 ?_
      exact vx_ret (g_iret X hS (wrO.no hE hP hO rfl) ⟨Nat.le_of_ble_eq_true rfl, Nat.le_of_ble_eq_true rfl⟩ dX0_setPhases_30)
    · cases hm
  · obtain ⟨he, hz, ad1, hP1, hW1⟩ := hP_
    subst hz
    have hO := hO.kept (ho_ ob hO.lt (gW_no hOA hO.lt))
    refine lv_i2l X.1.1 X.1.2.1 dX0_setPhases_14 (v := lI ((phN4 b c d : Int))) rfl ?_
    refine g_last X hk hS ⟨Or.inr rfl, hoN⟩ hO (j := 0) rfl (by decide) dX0_setPhases_15 (fun H locs hO hk hz2_ ho_ hS => ?_)
    have hP1 := hP1.kept (fun k i hv => ho_ _ (gW_ne (hW1.2 k i hv) hOA hol))
    refine g_goto X dX0_setPhases_16 (tgt := 31) (by decide) ?_
    refine g_iconst X dX0_setPhases_31 ?_
    exact vx_ret (g_iret X hS (wrO.ok he hP1 hW1 hO (lg_s _ _) rfl) ⟨Nat.le_of_ble_eq_true rfl, Nat.le_of_ble_eq_true rfl⟩ dX0_setPhases_32)
set_option maxHeartbeats 4000000 in
theorem w_setFlow (l : Launch) (E : EP) (hst : l.stackTraces = false) (ad : Nat → Nat → Nat) (S : GS) (ob : Nat) (og : Nat → Int64) (j v f : Int) (H : Heap) (hP : GP E ad S H) (hI : gI S) (hj : -2147483648 ≤ j ∧ j ≤ 2147483647) (hv : -2147483648 ≤ v ∧ v ≤ 2147483647) (hf : -2147483648 ≤ f ∧ f ≤ 2147483647) (hO : ce E ob (aL E 1 og) H) (hOA : ∀ k i, gv (gN S) k i → ad k i ≠ ob) (hoN : eN E ≤ ob) : gWi l E yX0_setFlow cX0_setFlow 6 [(0, 12, 15, 19), (0, 12, 19, 13), (0, 12, 23, 21)] 10 5 30 H [.ref (ad 6 0), .int (iI j), .int (iI v), .int (iI f), .ref ob] (oW (gN S) ad ob H) (wrO E ad S ob H (erF S j v f) (gset S 2 (j.toNat) v.toNat f) (gFl S (j.toNat) v.toNat)) := by
  refine g_metH (by decide) (Nat.le_of_ble_eq_true rfl) (fun P_ e_ s M_ bl mt_ c_ ls X htab hk hh hl => ?_)
  subst hh
  have X : gX P_ s M_ mt_ c_ cX0_setFlow 6 ([.ref (ad 6 0), .int (iI j), .int (iI v), .int (iI f), .ref ob] : List Value).toArray RX0 (some .int) := X
  have hl : lv_has ls 6 [(0, .ref (ad 6 0)), (1, .int (iI j)), (2, .int (iI v)), (3, .int (iI f)), (4, .ref ob)] := hl
  have hS : va_S (oW (gN S) ad ob s.heap) s.heap s.heap [] := va_S.rf
  refine g_aload X dX0_setFlow_0 hl 4 rfl ?_
  refine g_iconst X dX0_setFlow_2 ?_
  refine g_aload_n X dX0_setFlow_3 rfl hl 0 rfl ?_
  refine g_iload_n X dX0_setFlow_4 rfl hl 1 rfl ?_
  refine g_iload_n X dX0_setFlow_5 rfl hl 2 rfl ?_
  refine g_iload_n X dX0_setFlow_6 rfl hl 3 rfl ?_
  have hol := hO.lt
  refine g_wcalli (g_xrunV X hk (As := [.int (iI j), .int (iI v), .int (iI f)]) (rest := [.int (iI 0), .ref ob]) rfl (GP.X hP) (p_setFlow l E hst ad S j v f s.heap hP hI hj hv hf) 3 (lw_V q363 q364 q365 q46 q366) (by decide +kernel) ⟨⟨Nat.le_of_ble_eq_true rfl, Nat.le_of_ble_eq_true rfl⟩, Nat.le_of_ble_eq_true rfl, Nat.le_of_ble_eq_true rfl⟩ rfl rfl hl.1 (Nat.le_of_ble_eq_true rfl) dX0_setFlow_7) hk hS (fun q h => Or.inl h) (GP.N hP hk.N) (fun k nm cel q H locs hE hm hk ho_ hS hce hcv hcl => ?_) (fun z H locs hP_ hk hz_ ho_ hS => ?_)
  · have hP := hP.new ho_
    have hO := hO.kept (ho_ ob hO.lt)
    rcases k with _ | _ | _ | k
    · obtain rfl : nm = nIx := (Option.some.inj hm).symm
      refine vx_catch (own := RX0) (name := nIx) X.1.2.2.2.1 (tableOf []) ⟨0, 12, 15, 19⟩ (tableOf [(0, 12, 19, 13), (0, 12, 23, 21)]) htab (fun z hz => nomatch hz) (by decide) (by decide) (X.1.2.2.2.2 _ q259) (va_Nw.use rfl (hk.ev.2.2.1 _ (List.mem_of_getElem? (i := 2) rfl))) hce hcv hcl ?_
      refine g_astore (lv' := [(5, .ref q), (0, .ref (ad 6 0)), (1, .int (iI j)), (2, .int (iI v)), (3, .int (iI f)), (4, .ref ob)]) X dX0_setFlow_15 hl (by decide) rfl (fun ls hl => ?_)
      refine g_iconst X dX0_setFlow_17 ?_
      exact vx_ret (g_iret X hS (wrO.no hE hP hO rfl) ⟨Nat.le_of_ble_eq_true rfl, Nat.le_of_ble_eq_true rfl⟩ dX0_setFlow_18)
    · obtain rfl : nm = nAr := (Option.some.inj hm).symm
      refine vx_catch (own := RX0) (name := nAr) X.1.2.2.2.1 (tableOf [(0, 12, 15, 19)]) ⟨0, 12, 19, 13⟩ (tableOf [(0, 12, 23, 21)]) htab (fun z hz => by rcases List.mem_singleton.mp hz with rfl; exact Or.inr ⟨by decide, nIx, X.1.2.2.2.2 _ q259, hk.ev.2.2.2.2.1 _ (List.mem_of_getElem? (i := 1) rfl)⟩) (by decide) (by decide) (X.1.2.2.2.2 _ q180) (va_Nw.use rfl (hk.ev.2.2.1 _ (List.mem_of_getElem? (i := 1) rfl))) hce hcv hcl ?_
      refine g_astore (lv' := [(5, .ref q), (0, .ref (ad 6 0)), (1, .int (iI j)), (2, .int (iI v)), (3, .int (iI f)), (4, .ref ob)]) X dX0_setFlow_19 hl (by decide) rfl (fun ls hl => ?_)
      refine g_iconst X dX0_setFlow_21 ?_
      exact vx_ret (g_iret X hS (wrO.no hE hP hO rfl) ⟨Nat.le_of_ble_eq_true rfl, Nat.le_of_ble_eq_true rfl⟩ dX0_setFlow_22)
    · obtain rfl : nm = nSt := (Option.some.inj hm).symm
      refine vx_catch (own := RX0) (name := nSt) X.1.2.2.2.1 (tableOf [(0, 12, 15, 19), (0, 12, 19, 13)]) ⟨0, 12, 23, 21⟩ (tableOf []) htab (fun z hz => by rcases List.mem_cons.mp hz with rfl | hz; exact Or.inr ⟨by decide, nIx, X.1.2.2.2.2 _ q259, hk.ev.2.2.2.2.1 _ (List.mem_of_getElem? (i := 3) rfl)⟩; rcases List.mem_singleton.mp hz with rfl; exact Or.inr ⟨by decide, nAr, X.1.2.2.2.2 _ q180, hk.ev.2.2.2.2.1 _ (List.mem_of_getElem? (i := 2) rfl)⟩) (by decide) (by decide) (X.1.2.2.2.2 _ q292) (va_Nw.use rfl (hk.ev.2.2.1 _ (List.mem_of_getElem? (i := 3) rfl))) hce hcv hcl ?_
      refine g_astore (lv' := [(5, .ref q), (0, .ref (ad 6 0)), (1, .int (iI j)), (2, .int (iI v)), (3, .int (iI f)), (4, .ref ob)]) X dX0_setFlow_23 hl (by decide) rfl (fun ls hl => ?_)
      refine g_iconst X dX0_setFlow_25 ?_
      exact vx_ret (g_iret X hS (wrO.no hE hP hO rfl) ⟨Nat.le_of_ble_eq_true rfl, Nat.le_of_ble_eq_true rfl⟩ dX0_setFlow_26)
    · cases hm
  · obtain ⟨he, hz, hP1⟩ := hP_
    subst hz
    have hW1 : adW (gN (gset S 2 (j.toNat) v.toNat f)) (gN S) ad s.heap ad := gW_rf
    have hO := hO.kept (ho_ ob hO.lt (gW_no hOA hO.lt))
    refine lv_i2l X.1.1 X.1.2.1 dX0_setFlow_10 (v := lI (gFl S (j.toNat) v.toNat)) rfl ?_
    refine g_last X hk hS ⟨Or.inr rfl, hoN⟩ hO (j := 0) rfl (by decide) dX0_setFlow_11 (fun H locs hO hk hz2_ ho_ hS => ?_)
    have hP1 := hP1.kept (fun k i hv => ho_ _ (gW_ne (hW1.2 k i hv) hOA hol))
    refine g_goto X dX0_setFlow_12 (tgt := 27) (by decide) ?_
    refine g_iconst X dX0_setFlow_27 ?_
    exact vx_ret (g_iret X hS (wrO.ok he hP1 hW1 hO (lg_s _ _) rfl) ⟨Nat.le_of_ble_eq_true rfl, Nat.le_of_ble_eq_true rfl⟩ dX0_setFlow_28)
set_option maxHeartbeats 4000000 in
theorem w_setLink (l : Launch) (E : EP) (hst : l.stackTraces = false) (ad : Nat → Nat → Nat) (S : GS) (j t r : Int) (H : Heap) (hP : GP E ad S H) (hI : gI S) (hj : -2147483648 ≤ j ∧ j ≤ 2147483647) (ht : -2147483648 ≤ t ∧ t ≤ 2147483647) (hr : -2147483648 ≤ r ∧ r ≤ 2147483647) : gWi l E yX0_setLink cX0_setLink 5 [(0, 7, 10, 19), (0, 7, 14, 13), (0, 7, 18, 21)] 10 3 18 H [.ref (ad 6 0), .int (iI j), .int (iI t), .int (iI r)] (gW (gN S) ad H) (wrN E ad S H (erL S j t r) (gset (gset S 15 (j.toNat) 0 t) 16 (j.toNat) 0 r)) := by
  refine g_metH (by decide) (Nat.le_of_ble_eq_true rfl) (fun P_ e_ s M_ bl mt_ c_ ls X htab hk hh hl => ?_)
  subst hh
  have X : gX P_ s M_ mt_ c_ cX0_setLink 5 ([.ref (ad 6 0), .int (iI j), .int (iI t), .int (iI r)] : List Value).toArray RX0 (some .int) := X
  have hl : lv_has ls 5 [(0, .ref (ad 6 0)), (1, .int (iI j)), (2, .int (iI t)), (3, .int (iI r))] := hl
  have hS : va_S (gW (gN S) ad s.heap) s.heap s.heap [] := va_S.rf
  refine g_aload_n X dX0_setLink_0 rfl hl 0 rfl ?_
  refine g_iload_n X dX0_setLink_1 rfl hl 1 rfl ?_
  refine g_iload_n X dX0_setLink_2 rfl hl 2 rfl ?_
  refine g_iload_n X dX0_setLink_3 rfl hl 3 rfl ?_
  refine g_wcallv (g_xrunV X hk (As := [.int (iI j), .int (iI t), .int (iI r)]) (rest := []) rfl (GP.X hP) (p_setLink l E hst ad S j t r s.heap hP hI hj ht hr) 3 (lw_V q370 q371 q372 q46 q373) (by decide +kernel) ⟨⟨Nat.le_of_ble_eq_true rfl, Nat.le_of_ble_eq_true rfl⟩, Nat.le_of_ble_eq_true rfl, Nat.le_of_ble_eq_true rfl⟩ rfl rfl hl.1 (Nat.le_of_ble_eq_true rfl) dX0_setLink_4) hk hS (fun q h => h) (GP.N hP hk.N) (fun k nm cel q H locs hE hm hk ho_ hS hce hcv hcl => ?_) (fun H locs hP_ hk hz_ ho_ hS => ?_)
  · have hP := hP.new ho_
    rcases k with _ | _ | _ | k
    · obtain rfl : nm = nIx := (Option.some.inj hm).symm
      refine vx_catch (own := RX0) (name := nIx) X.1.2.2.2.1 (tableOf []) ⟨0, 7, 10, 19⟩ (tableOf [(0, 7, 14, 13), (0, 7, 18, 21)]) htab (fun z hz => nomatch hz) (by decide) (by decide) (X.1.2.2.2.2 _ q259) (va_Nw.use rfl (hk.ev.2.2.1 _ (List.mem_of_getElem? (i := 2) rfl))) hce hcv hcl ?_
      refine g_astore (lv' := [(4, .ref q), (0, .ref (ad 6 0)), (1, .int (iI j)), (2, .int (iI t)), (3, .int (iI r))]) X dX0_setLink_10 hl (by decide) rfl (fun ls hl => ?_)
      refine g_iconst X dX0_setLink_12 ?_
      exact vx_ret (g_iret X hS (wrN.no hE hP rfl) ⟨Nat.le_of_ble_eq_true rfl, Nat.le_of_ble_eq_true rfl⟩ dX0_setLink_13)
    · obtain rfl : nm = nAr := (Option.some.inj hm).symm
      refine vx_catch (own := RX0) (name := nAr) X.1.2.2.2.1 (tableOf [(0, 7, 10, 19)]) ⟨0, 7, 14, 13⟩ (tableOf [(0, 7, 18, 21)]) htab (fun z hz => by rcases List.mem_singleton.mp hz with rfl; exact Or.inr ⟨by decide, nIx, X.1.2.2.2.2 _ q259, hk.ev.2.2.2.2.1 _ (List.mem_of_getElem? (i := 1) rfl)⟩) (by decide) (by decide) (X.1.2.2.2.2 _ q180) (va_Nw.use rfl (hk.ev.2.2.1 _ (List.mem_of_getElem? (i := 1) rfl))) hce hcv hcl ?_
      refine g_astore (lv' := [(4, .ref q), (0, .ref (ad 6 0)), (1, .int (iI j)), (2, .int (iI t)), (3, .int (iI r))]) X dX0_setLink_14 hl (by decide) rfl (fun ls hl => ?_)
      refine g_iconst X dX0_setLink_16 ?_
      exact vx_ret (g_iret X hS (wrN.no hE hP rfl) ⟨Nat.le_of_ble_eq_true rfl, Nat.le_of_ble_eq_true rfl⟩ dX0_setLink_17)
    · obtain rfl : nm = nSt := (Option.some.inj hm).symm
      refine vx_catch (own := RX0) (name := nSt) X.1.2.2.2.1 (tableOf [(0, 7, 10, 19), (0, 7, 14, 13)]) ⟨0, 7, 18, 21⟩ (tableOf []) htab (fun z hz => by rcases List.mem_cons.mp hz with rfl | hz; exact Or.inr ⟨by decide, nIx, X.1.2.2.2.2 _ q259, hk.ev.2.2.2.2.1 _ (List.mem_of_getElem? (i := 3) rfl)⟩; rcases List.mem_singleton.mp hz with rfl; exact Or.inr ⟨by decide, nAr, X.1.2.2.2.2 _ q180, hk.ev.2.2.2.2.1 _ (List.mem_of_getElem? (i := 2) rfl)⟩) (by decide) (by decide) (X.1.2.2.2.2 _ q292) (va_Nw.use rfl (hk.ev.2.2.1 _ (List.mem_of_getElem? (i := 3) rfl))) hce hcv hcl ?_
      refine g_astore (lv' := [(4, .ref q), (0, .ref (ad 6 0)), (1, .int (iI j)), (2, .int (iI t)), (3, .int (iI r))]) X dX0_setLink_18 hl (by decide) rfl (fun ls hl => ?_)
      refine g_iconst X dX0_setLink_20 ?_
      exact vx_ret (g_iret X hS (wrN.no hE hP rfl) ⟨Nat.le_of_ble_eq_true rfl, Nat.le_of_ble_eq_true rfl⟩ dX0_setLink_21)
    · cases hm
  · obtain ⟨he, hP1⟩ := hP_
    have hW1 : adW (gN (gset (gset S 15 (j.toNat) 0 t) 16 (j.toNat) 0 r)) (gN S) ad s.heap ad := gW_rf
    refine g_goto X dX0_setLink_7 (tgt := 22) (by decide) ?_
    refine g_iconst X dX0_setLink_22 ?_
    exact vx_ret (g_iret X hS (wrN.ok he hP1 hW1 rfl) ⟨Nat.le_of_ble_eq_true rfl, Nat.le_of_ble_eq_true rfl⟩ dX0_setLink_23)
set_option maxHeartbeats 4000000 in
theorem w_setOffset (l : Launch) (E : EP) (hst : l.stackTraces = false) (ad : Nat → Nat → Nat) (S : GS) (ob : Nat) (og : Nat → Int64) (j o : Int) (H : Heap) (hP : GP E ad S H) (hI : gI S) (hj : -2147483648 ≤ j ∧ j ≤ 2147483647) (ho : -2147483648 ≤ o ∧ o ≤ 2147483647) (hO : ce E ob (aL E 1 og) H) (hOA : ∀ k i, gv (gN S) k i → ad k i ≠ ob) (hoN : eN E ≤ ob) : gWi l E yX0_setOffset cX0_setOffset 5 [(0, 10, 13, 19), (0, 10, 17, 13), (0, 10, 21, 21)] 10 3 18 H [.ref (ad 6 0), .int (iI j), .int (iI o), .ref ob] (oW (gN S) ad ob H) (wrO E ad S ob H (erO S j o) (gset S 14 (j.toNat) 0 o) (gOff S (j.toNat))) := by
  refine g_metH (by decide) (Nat.le_of_ble_eq_true rfl) (fun P_ e_ s M_ bl mt_ c_ ls X htab hk hh hl => ?_)
  subst hh
  have X : gX P_ s M_ mt_ c_ cX0_setOffset 5 ([.ref (ad 6 0), .int (iI j), .int (iI o), .ref ob] : List Value).toArray RX0 (some .int) := X
  have hl : lv_has ls 5 [(0, .ref (ad 6 0)), (1, .int (iI j)), (2, .int (iI o)), (3, .ref ob)] := hl
  have hS : va_S (oW (gN S) ad ob s.heap) s.heap s.heap [] := va_S.rf
  refine g_aload_n X dX0_setOffset_0 rfl hl 3 rfl ?_
  refine g_iconst X dX0_setOffset_1 ?_
  refine g_aload_n X dX0_setOffset_2 rfl hl 0 rfl ?_
  refine g_iload_n X dX0_setOffset_3 rfl hl 1 rfl ?_
  refine g_iload_n X dX0_setOffset_4 rfl hl 2 rfl ?_
  have hol := hO.lt
  refine g_wcalli (g_xrunV X hk (As := [.int (iI j), .int (iI o)]) (rest := [.int (iI 0), .ref ob]) rfl (GP.X hP) (p_setOffset l E hst ad S j o s.heap hP hI hj ho) 2 (lw_V q381 q382 q383 q46 q384) (by decide +kernel) ⟨⟨Nat.le_of_ble_eq_true rfl, Nat.le_of_ble_eq_true rfl⟩, Nat.le_of_ble_eq_true rfl, Nat.le_of_ble_eq_true rfl⟩ rfl rfl hl.1 (Nat.le_of_ble_eq_true rfl) dX0_setOffset_5) hk hS (fun q h => Or.inl h) (GP.N hP hk.N) (fun k nm cel q H locs hE hm hk ho_ hS hce hcv hcl => ?_) (fun z H locs hP_ hk hz_ ho_ hS => ?_)
  · have hP := hP.new ho_
    have hO := hO.kept (ho_ ob hO.lt)
    rcases k with _ | _ | _ | k
    · obtain rfl : nm = nIx := (Option.some.inj hm).symm
      refine vx_catch (own := RX0) (name := nIx) X.1.2.2.2.1 (tableOf []) ⟨0, 10, 13, 19⟩ (tableOf [(0, 10, 17, 13), (0, 10, 21, 21)]) htab (fun z hz => nomatch hz) (by decide) (by decide) (X.1.2.2.2.2 _ q259) (va_Nw.use rfl (hk.ev.2.2.1 _ (List.mem_of_getElem? (i := 2) rfl))) hce hcv hcl ?_
      refine g_astore (lv' := [(4, .ref q), (0, .ref (ad 6 0)), (1, .int (iI j)), (2, .int (iI o)), (3, .ref ob)]) X dX0_setOffset_13 hl (by decide) rfl (fun ls hl => ?_)
      refine g_iconst X dX0_setOffset_15 ?_
      exact vx_ret (g_iret X hS (wrO.no hE hP hO rfl) ⟨Nat.le_of_ble_eq_true rfl, Nat.le_of_ble_eq_true rfl⟩ dX0_setOffset_16)
    · obtain rfl : nm = nAr := (Option.some.inj hm).symm
      refine vx_catch (own := RX0) (name := nAr) X.1.2.2.2.1 (tableOf [(0, 10, 13, 19)]) ⟨0, 10, 17, 13⟩ (tableOf [(0, 10, 21, 21)]) htab (fun z hz => by rcases List.mem_singleton.mp hz with rfl; exact Or.inr ⟨by decide, nIx, X.1.2.2.2.2 _ q259, hk.ev.2.2.2.2.1 _ (List.mem_of_getElem? (i := 1) rfl)⟩) (by decide) (by decide) (X.1.2.2.2.2 _ q180) (va_Nw.use rfl (hk.ev.2.2.1 _ (List.mem_of_getElem? (i := 1) rfl))) hce hcv hcl ?_
      refine g_astore (lv' := [(4, .ref q), (0, .ref (ad 6 0)), (1, .int (iI j)), (2, .int (iI o)), (3, .ref ob)]) X dX0_setOffset_17 hl (by decide) rfl (fun ls hl => ?_)
      refine g_iconst X dX0_setOffset_19 ?_
      exact vx_ret (g_iret X hS (wrO.no hE hP hO rfl) ⟨Nat.le_of_ble_eq_true rfl, Nat.le_of_ble_eq_true rfl⟩ dX0_setOffset_20)
    · obtain rfl : nm = nSt := (Option.some.inj hm).symm
      refine vx_catch (own := RX0) (name := nSt) X.1.2.2.2.1 (tableOf [(0, 10, 13, 19), (0, 10, 17, 13)]) ⟨0, 10, 21, 21⟩ (tableOf []) htab (fun z hz => by rcases List.mem_cons.mp hz with rfl | hz; exact Or.inr ⟨by decide, nIx, X.1.2.2.2.2 _ q259, hk.ev.2.2.2.2.1 _ (List.mem_of_getElem? (i := 3) rfl)⟩; rcases List.mem_singleton.mp hz with rfl; exact Or.inr ⟨by decide, nAr, X.1.2.2.2.2 _ q180, hk.ev.2.2.2.2.1 _ (List.mem_of_getElem? (i := 2) rfl)⟩) (by decide) (by decide) (X.1.2.2.2.2 _ q292) (va_Nw.use rfl (hk.ev.2.2.1 _ (List.mem_of_getElem? (i := 3) rfl))) hce hcv hcl ?_
      refine g_astore (lv' := [(4, .ref q), (0, .ref (ad 6 0)), (1, .int (iI j)), (2, .int (iI o)), (3, .ref ob)]) X dX0_setOffset_21 hl (by decide) rfl (fun ls hl => ?_)
      refine g_iconst X dX0_setOffset_23 ?_
      exact vx_ret (g_iret X hS (wrO.no hE hP hO rfl) ⟨Nat.le_of_ble_eq_true rfl, Nat.le_of_ble_eq_true rfl⟩ dX0_setOffset_24)
    · cases hm
  · obtain ⟨he, hz, hP1⟩ := hP_
    subst hz
    have hW1 : adW (gN (gset S 14 (j.toNat) 0 o)) (gN S) ad s.heap ad := gW_rf
    have hO := hO.kept (ho_ ob hO.lt (gW_no hOA hO.lt))
    refine lv_i2l X.1.1 X.1.2.1 dX0_setOffset_8 (v := lI (gOff S (j.toNat))) rfl ?_
    refine g_last X hk hS ⟨Or.inr rfl, hoN⟩ hO (j := 0) rfl (by decide) dX0_setOffset_9 (fun H locs hO hk hz2_ ho_ hS => ?_)
    have hP1 := hP1.kept (fun k i hv => ho_ _ (gW_ne (hW1.2 k i hv) hOA hol))
    refine g_goto X dX0_setOffset_10 (tgt := 25) (by decide) ?_
    refine g_iconst X dX0_setOffset_25 ?_
    exact vx_ret (g_iret X hS (wrO.ok he hP1 hW1 hO (lg_s _ _) rfl) ⟨Nat.le_of_ble_eq_true rfl, Nat.le_of_ble_eq_true rfl⟩ dX0_setOffset_26)
set_option maxHeartbeats 4000000 in
theorem w_improve (l : Launch) (E : EP) (hst : l.stackTraces = false) (ad : Nat → Nat → Nat) (S : GS) (ob : Nat) (og : Nat → Int64) (H : Heap) (hP : GP E ad S H) (hI : gI S)  (hO : ce E ob (aL E 1 og) H) (hOA : ∀ k i, gv (gN S) k i → ad k i ≠ ob) (hoN : eN E ≤ ob) : gWi l E yX0_improve cX0_improve 3 [(0, 8, 11, 21)] 10 23 970 H [.ref (ad 6 0), .ref ob] (oW (gN S) ad ob H) (wrO E ad S ob H (erI S) ((imS S 10).1) (bns (imS S 10).1)) := by
  refine g_metH (by decide) (Nat.le_of_ble_eq_true rfl) (fun P_ e_ s M_ bl mt_ c_ ls X htab hk hh hl => ?_)
  subst hh
  have X : gX P_ s M_ mt_ c_ cX0_improve 3 ([.ref (ad 6 0), .ref ob] : List Value).toArray RX0 (some .int) := X
  have hl : lv_has ls 3 [(0, .ref (ad 6 0)), (1, .ref ob)] := hl
  have hS : va_S (oW (gN S) ad ob s.heap) s.heap s.heap [] := va_S.rf
  refine g_aload_n X dX0_improve_0 rfl hl 1 rfl ?_
  refine g_iconst X dX0_improve_1 ?_
  refine g_aload_n X dX0_improve_2 rfl hl 0 rfl ?_
  have hol := hO.lt
  refine g_wcalli (g_xrunV X hk (As := []) (rest := [.int (iI 0), .ref ob]) rfl (GP.X hP) (p_improve l E hst ad S  s.heap hP hI ) 0 (lw_V q388 q389 q390 q46 q391) (by decide +kernel) ⟨⟨Nat.le_of_ble_eq_true rfl, Nat.le_of_ble_eq_true rfl⟩, Nat.le_of_ble_eq_true rfl, Nat.le_of_ble_eq_true rfl⟩ rfl rfl hl.1 (Nat.le_of_ble_eq_true rfl) dX0_improve_3) hk hS (fun q h => Or.inl h) (GP.N hP hk.N) (fun k nm cel q H locs hE hm hk ho_ hS hce hcv hcl => ?_) (fun z H locs hP_ hk hz_ ho_ hS => ?_)
  · have hP := hP.new ho_
    have hO := hO.kept (ho_ ob hO.lt)
    rcases k with _ | k
    · obtain rfl : nm = nSt := (Option.some.inj hm).symm
      refine vx_catch (own := RX0) (name := nSt) X.1.2.2.2.1 (tableOf []) ⟨0, 8, 11, 21⟩ (tableOf []) htab (fun z hz => nomatch hz) (by decide) (by decide) (X.1.2.2.2.2 _ q292) (va_Nw.use rfl (hk.ev.2.2.1 _ (List.mem_of_getElem? (i := 3) rfl))) hce hcv hcl ?_
      refine g_astore_n (lv' := [(2, .ref q), (0, .ref (ad 6 0)), (1, .ref ob)]) X dX0_improve_11 rfl hl (by decide) rfl (fun ls hl => ?_)
      refine g_iconst X dX0_improve_12 ?_
      exact vx_ret (g_iret X hS (wrO.no hE hP hO rfl) ⟨Nat.le_of_ble_eq_true rfl, Nat.le_of_ble_eq_true rfl⟩ dX0_improve_13)
    · cases hm
  · obtain ⟨he, hz, hP1⟩ := hP_
    subst hz
    have hW1 : adW (gN ((imS S 10).1)) (gN S) ad s.heap ad := by rw [(imS_off hI 10).n]; exact gW_rf
    have hO := hO.kept (ho_ ob hO.lt (gW_no hOA hO.lt))
    refine lv_i2l X.1.1 X.1.2.1 dX0_improve_6 (v := lI (bns (imS S 10).1)) rfl ?_
    refine g_last X hk hS ⟨Or.inr rfl, hoN⟩ hO (j := 0) rfl (by decide) dX0_improve_7 (fun H locs hO hk hz2_ ho_ hS => ?_)
    have hP1 := hP1.kept (fun k i hv => ho_ _ (gW_ne (hW1.2 k i hv) hOA hol))
    refine g_goto X dX0_improve_8 (tgt := 14) (by decide) ?_
    refine g_iconst X dX0_improve_14 ?_
    exact vx_ret (g_iret X hS (wrO.ok he hP1 hW1 hO (lg_s _ _) rfl) ⟨Nat.le_of_ble_eq_true rfl, Nat.le_of_ble_eq_true rfl⟩ dX0_improve_15)
set_option maxHeartbeats 4000000 in
theorem w_hasPlan (l : Launch) (E : EP) (hst : l.stackTraces = false) (ad : Nat → Nat → Nat) (S : GS) (ob : Nat) (og : Nat → Int64) (j : Int) (H : Heap) (hP : GP E ad S H) (hI : gI S) (hj : -2147483648 ≤ j ∧ j ≤ 2147483647) (hO : ce E ob (aL E 1 og) H) (hOA : ∀ k i, gv (gN S) k i → ad k i ≠ ob) (hoN : eN E ≤ ob) : gWi l E yX0_hasPlan cX0_hasPlan 4 [(0, 16, 19, 19)] 10 1 6 H [.ref (ad 6 0), .int (iI j), .ref ob] (oW (gN S) ad ob H) (wrO E ad S ob H (erJ S j) S (bZ (decide (0 ≤ lft S (j.toNat))))) := by
  refine g_metH (by decide) (Nat.le_of_ble_eq_true rfl) (fun P_ e_ s M_ bl mt_ c_ ls X htab hk hh hl => ?_)
  subst hh
  have X : gX P_ s M_ mt_ c_ cX0_hasPlan 4 ([.ref (ad 6 0), .int (iI j), .ref ob] : List Value).toArray RX0 (some .int) := X
  have hl : lv_has ls 4 [(0, .ref (ad 6 0)), (1, .int (iI j)), (2, .ref ob)] := hl
  have hS : va_S (oW (gN S) ad ob s.heap) s.heap s.heap [] := va_S.rf
  refine g_aload_n X dX0_hasPlan_0 rfl hl 2 rfl ?_
  refine g_iconst X dX0_hasPlan_1 ?_
  refine g_aload_n X dX0_hasPlan_2 rfl hl 0 rfl ?_
  refine g_iload_n X dX0_hasPlan_3 rfl hl 1 rfl ?_
  have hol := hO.lt
  refine g_wcalli (g_xrunV X hk (As := [.int (iI j)]) (rest := [.int (iI 0), .ref ob]) rfl (GP.X hP) (p_hasPlan l E hst ad S j s.heap hP hI hj) 1 (lw_V q454 q455 q456 q46 q457) (by decide +kernel) ⟨⟨Nat.le_of_ble_eq_true rfl, Nat.le_of_ble_eq_true rfl⟩, Nat.le_of_ble_eq_true rfl, Nat.le_of_ble_eq_true rfl⟩ rfl rfl hl.1 (Nat.le_of_ble_eq_true rfl) dX0_hasPlan_4) hk hS (fun q h => Or.inl (Or.inr h)) (fun q h => Nat.le_trans hk.N h) (fun k nm cel q H locs hE hm hk ho_ hS hce hcv hcl => ?_) (fun z H locs hP_ hk hz_ ho_ hS => ?_)
  · have hP := hP.new ho_
    have hO := hO.kept (ho_ ob hO.lt)
    rcases k with _ | k
    · obtain rfl : nm = nIx := (Option.some.inj hm).symm
      refine vx_catch (own := RX0) (name := nIx) X.1.2.2.2.1 (tableOf []) ⟨0, 16, 19, 19⟩ (tableOf []) htab (fun z hz => nomatch hz) (by decide) (by decide) (X.1.2.2.2.2 _ q259) (va_Nw.use rfl (hk.ev.2.2.1 _ (List.mem_of_getElem? (i := 2) rfl))) hce hcv hcl ?_
      refine g_astore_n (lv' := [(3, .ref q), (0, .ref (ad 6 0)), (1, .int (iI j)), (2, .ref ob)]) X dX0_hasPlan_19 rfl hl (by decide) rfl (fun ls hl => ?_)
      refine g_iconst X dX0_hasPlan_20 ?_
      exact vx_ret (g_iret X hS (wrO.no hE hP hO rfl) ⟨Nat.le_of_ble_eq_true rfl, Nat.le_of_ble_eq_true rfl⟩ dX0_hasPlan_21)
    · cases hm
  · obtain ⟨he, hz, hP1⟩ := hP_
    subst hz
    have hW1 : adW (gN S) (gN S) ad s.heap ad := gW_rf
    have hO := hO.kept (ho_ ob hO.lt (fun h2 => absurd hO.lt (Nat.not_lt.mpr h2)))
    have hzb := bZ_le (decide (0 ≤ lft S (j.toNat)))
    refine g_if_eq X dX0_hasPlan_7 (tgt := 14) (by decide) (by omega) (fun c7 => ?_) (fun c7 => ?_)
    · refine lv_lconst X.1.1 X.1.2.1 dX0_hasPlan_14 (v := 0) rfl ?_
      have hb_ : (bZ (decide (0 ≤ lft S (j.toNat)))) = 0 := by omega
      refine g_last X hk hS ⟨Or.inr rfl, hoN⟩ hO (j := 0) rfl (by decide) dX0_hasPlan_15 (fun H locs hO hk hz2_ ho_ hS => ?_)
      have hP1 := hP1.kept (fun k i hv => ho_ _ (gW_ne (hW1.2 k i hv) hOA hol))
      refine g_goto X dX0_hasPlan_16 (tgt := 22) (by decide) ?_
      refine g_iconst X dX0_hasPlan_22 ?_
      exact vx_ret (g_iret X hS (wrO.ok he hP1 hW1 hO (by rw [hb_]; exact lg_s _ _) rfl) ⟨Nat.le_of_ble_eq_true rfl, Nat.le_of_ble_eq_true rfl⟩ dX0_hasPlan_23)
    · refine lv_lconst X.1.1 X.1.2.1 dX0_hasPlan_10 (v := 1) rfl ?_
      have hb_ : (bZ (decide (0 ≤ lft S (j.toNat)))) = 1 := by omega
      refine g_goto X dX0_hasPlan_11 (tgt := 15) (by decide) ?_
      refine g_last X hk hS ⟨Or.inr rfl, hoN⟩ hO (j := 0) rfl (by decide) dX0_hasPlan_15 (fun H locs hO hk hz2_ ho_ hS => ?_)
      have hP1 := hP1.kept (fun k i hv => ho_ _ (gW_ne (hW1.2 k i hv) hOA hol))
      refine g_goto X dX0_hasPlan_16 (tgt := 22) (by decide) ?_
      refine g_iconst X dX0_hasPlan_22 ?_
      exact vx_ret (g_iret X hS (wrO.ok he hP1 hW1 hO (by rw [hb_]; exact lg_s _ _) rfl) ⟨Nat.le_of_ble_eq_true rfl, Nat.le_of_ble_eq_true rfl⟩ dX0_hasPlan_23)
set_option maxHeartbeats 4000000 in
theorem w_green (l : Launch) (E : EP) (hst : l.stackTraces = false) (ad : Nat → Nat → Nat) (S : GS) (ob : Nat) (og : Nat → Int64) (j p : Int) (H : Heap) (hP : GP E ad S H) (hI : gI S) (hj : -2147483648 ≤ j ∧ j ≤ 2147483647) (hp : -2147483648 ≤ p ∧ p ≤ 2147483647) (hO : ce E ob (aL E 1 og) H) (hOA : ∀ k i, gv (gN S) k i → ad k i ≠ ob) (hoN : eN E ≤ ob) : gWi l E yX0_green cX0_green 5 [(0, 10, 13, 19), (0, 10, 17, 21)] 10 5 40 H [.ref (ad 6 0), .int (iI j), .int (iI p), .ref ob] (oW (gN S) ad ob H) (wrO E ad S ob H (erG S j p) S (grn S (j.toNat) p.toNat)) := by
  refine g_metH (by decide) (Nat.le_of_ble_eq_true rfl) (fun P_ e_ s M_ bl mt_ c_ ls X htab hk hh hl => ?_)
  subst hh
  have X : gX P_ s M_ mt_ c_ cX0_green 5 ([.ref (ad 6 0), .int (iI j), .int (iI p), .ref ob] : List Value).toArray RX0 (some .int) := X
  have hl : lv_has ls 5 [(0, .ref (ad 6 0)), (1, .int (iI j)), (2, .int (iI p)), (3, .ref ob)] := hl
  have hS : va_S (oW (gN S) ad ob s.heap) s.heap s.heap [] := va_S.rf
  refine g_aload_n X dX0_green_0 rfl hl 3 rfl ?_
  refine g_iconst X dX0_green_1 ?_
  refine g_aload_n X dX0_green_2 rfl hl 0 rfl ?_
  refine g_iload_n X dX0_green_3 rfl hl 1 rfl ?_
  refine g_iload_n X dX0_green_4 rfl hl 2 rfl ?_
  have hol := hO.lt
  refine g_wcalli (g_xrunV X hk (As := [.int (iI j), .int (iI p)]) (rest := [.int (iI 0), .ref ob]) rfl (GP.X hP) (p_green l E hst ad S j p s.heap hP hI hj hp) 2 (lw_V q461 q462 q463 q46 q464) (by decide +kernel) ⟨⟨Nat.le_of_ble_eq_true rfl, Nat.le_of_ble_eq_true rfl⟩, Nat.le_of_ble_eq_true rfl, Nat.le_of_ble_eq_true rfl⟩ rfl rfl hl.1 (Nat.le_of_ble_eq_true rfl) dX0_green_5) hk hS (fun q h => Or.inl (Or.inr h)) (fun q h => Nat.le_trans hk.N h) (fun k nm cel q H locs hE hm hk ho_ hS hce hcv hcl => ?_) (fun z H locs hP_ hk hz_ ho_ hS => ?_)
  · have hP := hP.new ho_
    have hO := hO.kept (ho_ ob hO.lt)
    rcases k with _ | _ | k
    · obtain rfl : nm = nIx := (Option.some.inj hm).symm
      refine vx_catch (own := RX0) (name := nIx) X.1.2.2.2.1 (tableOf []) ⟨0, 10, 13, 19⟩ (tableOf [(0, 10, 17, 21)]) htab (fun z hz => nomatch hz) (by decide) (by decide) (X.1.2.2.2.2 _ q259) (va_Nw.use rfl (hk.ev.2.2.1 _ (List.mem_of_getElem? (i := 2) rfl))) hce hcv hcl ?_
      refine g_astore (lv' := [(4, .ref q), (0, .ref (ad 6 0)), (1, .int (iI j)), (2, .int (iI p)), (3, .ref ob)]) X dX0_green_13 hl (by decide) rfl (fun ls hl => ?_)
      refine g_iconst X dX0_green_15 ?_
      exact vx_ret (g_iret X hS (wrO.no hE hP hO rfl) ⟨Nat.le_of_ble_eq_true rfl, Nat.le_of_ble_eq_true rfl⟩ dX0_green_16)
    · obtain rfl : nm = nSt := (Option.some.inj hm).symm
      refine vx_catch (own := RX0) (name := nSt) X.1.2.2.2.1 (tableOf [(0, 10, 13, 19)]) ⟨0, 10, 17, 21⟩ (tableOf []) htab (fun z hz => by rcases List.mem_singleton.mp hz with rfl; exact Or.inr ⟨by decide, nIx, X.1.2.2.2.2 _ q259, hk.ev.2.2.2.2.1 _ (List.mem_of_getElem? (i := 3) rfl)⟩) (by decide) (by decide) (X.1.2.2.2.2 _ q292) (va_Nw.use rfl (hk.ev.2.2.1 _ (List.mem_of_getElem? (i := 3) rfl))) hce hcv hcl ?_
      refine g_astore (lv' := [(4, .ref q), (0, .ref (ad 6 0)), (1, .int (iI j)), (2, .int (iI p)), (3, .ref ob)]) X dX0_green_17 hl (by decide) rfl (fun ls hl => ?_)
      refine g_iconst X dX0_green_19 ?_
      exact vx_ret (g_iret X hS (wrO.no hE hP hO rfl) ⟨Nat.le_of_ble_eq_true rfl, Nat.le_of_ble_eq_true rfl⟩ dX0_green_20)
    · cases hm
  · obtain ⟨he, hz, hP1⟩ := hP_
    subst hz
    have hW1 : adW (gN S) (gN S) ad s.heap ad := gW_rf
    have hO := hO.kept (ho_ ob hO.lt (fun h2 => absurd hO.lt (Nat.not_lt.mpr h2)))
    refine lv_i2l X.1.1 X.1.2.1 dX0_green_8 (v := lI (grn S (j.toNat) p.toNat)) rfl ?_
    refine g_last X hk hS ⟨Or.inr rfl, hoN⟩ hO (j := 0) rfl (by decide) dX0_green_9 (fun H locs hO hk hz2_ ho_ hS => ?_)
    have hP1 := hP1.kept (fun k i hv => ho_ _ (gW_ne (hW1.2 k i hv) hOA hol))
    refine g_goto X dX0_green_10 (tgt := 21) (by decide) ?_
    refine g_iconst X dX0_green_21 ?_
    exact vx_ret (g_iret X hS (wrO.ok he hP1 hW1 hO (lg_s _ _) rfl) ⟨Nat.le_of_ble_eq_true rfl, Nat.le_of_ble_eq_true rfl⟩ dX0_green_22)
set_option maxHeartbeats 4000000 in
theorem w_clearing (l : Launch) (E : EP) (hst : l.stackTraces = false) (ad : Nat → Nat → Nat) (S : GS) (ob : Nat) (og : Nat → Int64) (j p : Int) (H : Heap) (hP : GP E ad S H) (hI : gI S) (hj : -2147483648 ≤ j ∧ j ≤ 2147483647) (hp : -2147483648 ≤ p ∧ p ≤ 2147483647) (hO : ce E ob (aL E 1 og) H) (hOA : ∀ k i, gv (gN S) k i → ad k i ≠ ob) (hoN : eN E ≤ ob) : gWi l E yX0_clearing cX0_clearing 5 [(0, 10, 13, 19)] 10 2 12 H [.ref (ad 6 0), .int (iI j), .int (iI p), .ref ob] (oW (gN S) ad ob H) (wrO E ad S ob H (erK S j p) S (clr S (j.toNat) p.toNat)) := by
  refine g_metH (by decide) (Nat.le_of_ble_eq_true rfl) (fun P_ e_ s M_ bl mt_ c_ ls X htab hk hh hl => ?_)
  subst hh
  have X : gX P_ s M_ mt_ c_ cX0_clearing 5 ([.ref (ad 6 0), .int (iI j), .int (iI p), .ref ob] : List Value).toArray RX0 (some .int) := X
  have hl : lv_has ls 5 [(0, .ref (ad 6 0)), (1, .int (iI j)), (2, .int (iI p)), (3, .ref ob)] := hl
  have hS : va_S (oW (gN S) ad ob s.heap) s.heap s.heap [] := va_S.rf
  refine g_aload_n X dX0_clearing_0 rfl hl 3 rfl ?_
  refine g_iconst X dX0_clearing_1 ?_
  refine g_aload_n X dX0_clearing_2 rfl hl 0 rfl ?_
  refine g_iload_n X dX0_clearing_3 rfl hl 1 rfl ?_
  refine g_iload_n X dX0_clearing_4 rfl hl 2 rfl ?_
  have hol := hO.lt
  refine g_wcalli (g_xrunV X hk (As := [.int (iI j), .int (iI p)]) (rest := [.int (iI 0), .ref ob]) rfl (GP.X hP) (p_clearing1 l E hst ad S j p s.heap hP hI hj hp) 2 (lw_V q475 q476 q477 q46 q478) (by decide +kernel) ⟨⟨Nat.le_of_ble_eq_true rfl, Nat.le_of_ble_eq_true rfl⟩, Nat.le_of_ble_eq_true rfl, Nat.le_of_ble_eq_true rfl⟩ rfl rfl hl.1 (Nat.le_of_ble_eq_true rfl) dX0_clearing_5) hk hS (fun q h => Or.inl (Or.inr h)) (fun q h => Nat.le_trans hk.N h) (fun k nm cel q H locs hE hm hk ho_ hS hce hcv hcl => ?_) (fun z H locs hP_ hk hz_ ho_ hS => ?_)
  · have hP := hP.new ho_
    have hO := hO.kept (ho_ ob hO.lt)
    rcases k with _ | k
    · obtain rfl : nm = nIx := (Option.some.inj hm).symm
      refine vx_catch (own := RX0) (name := nIx) X.1.2.2.2.1 (tableOf []) ⟨0, 10, 13, 19⟩ (tableOf []) htab (fun z hz => nomatch hz) (by decide) (by decide) (X.1.2.2.2.2 _ q259) (va_Nw.use rfl (hk.ev.2.2.1 _ (List.mem_of_getElem? (i := 2) rfl))) hce hcv hcl ?_
      refine g_astore (lv' := [(4, .ref q), (0, .ref (ad 6 0)), (1, .int (iI j)), (2, .int (iI p)), (3, .ref ob)]) X dX0_clearing_13 hl (by decide) rfl (fun ls hl => ?_)
      refine g_iconst X dX0_clearing_15 ?_
      exact vx_ret (g_iret X hS (wrO.no hE hP hO rfl) ⟨Nat.le_of_ble_eq_true rfl, Nat.le_of_ble_eq_true rfl⟩ dX0_clearing_16)
    · cases hm
  · obtain ⟨he, hz, hP1⟩ := hP_
    subst hz
    have hW1 : adW (gN S) (gN S) ad s.heap ad := gW_rf
    have hO := hO.kept (ho_ ob hO.lt (fun h2 => absurd hO.lt (Nat.not_lt.mpr h2)))
    refine lv_i2l X.1.1 X.1.2.1 dX0_clearing_8 (v := lI (clr S (j.toNat) p.toNat)) rfl ?_
    refine g_last X hk hS ⟨Or.inr rfl, hoN⟩ hO (j := 0) rfl (by decide) dX0_clearing_9 (fun H locs hO hk hz2_ ho_ hS => ?_)
    have hP1 := hP1.kept (fun k i hv => ho_ _ (gW_ne (hW1.2 k i hv) hOA hol))
    refine g_goto X dX0_clearing_10 (tgt := 17) (by decide) ?_
    refine g_iconst X dX0_clearing_17 ?_
    exact vx_ret (g_iret X hS (wrO.ok he hP1 hW1 hO (lg_s _ _) rfl) ⟨Nat.le_of_ble_eq_true rfl, Nat.le_of_ble_eq_true rfl⟩ dX0_clearing_18)
set_option maxHeartbeats 4000000 in
theorem w_offset (l : Launch) (E : EP) (hst : l.stackTraces = false) (ad : Nat → Nat → Nat) (S : GS) (ob : Nat) (og : Nat → Int64) (j : Int) (H : Heap) (hP : GP E ad S H) (hI : gI S) (hj : -2147483648 ≤ j ∧ j ≤ 2147483647) (hO : ce E ob (aL E 1 og) H) (hOA : ∀ k i, gv (gN S) k i → ad k i ≠ ob) (hoN : eN E ≤ ob) : gWi l E yX0_offset cX0_offset 4 [(0, 9, 12, 19)] 10 1 6 H [.ref (ad 6 0), .int (iI j), .ref ob] (oW (gN S) ad ob H) (wrO E ad S ob H (erJ S j) S (gOff S (j.toNat))) := by
  refine g_metH (by decide) (Nat.le_of_ble_eq_true rfl) (fun P_ e_ s M_ bl mt_ c_ ls X htab hk hh hl => ?_)
  subst hh
  have X : gX P_ s M_ mt_ c_ cX0_offset 4 ([.ref (ad 6 0), .int (iI j), .ref ob] : List Value).toArray RX0 (some .int) := X
  have hl : lv_has ls 4 [(0, .ref (ad 6 0)), (1, .int (iI j)), (2, .ref ob)] := hl
  have hS : va_S (oW (gN S) ad ob s.heap) s.heap s.heap [] := va_S.rf
  refine g_aload_n X dX0_offset_0 rfl hl 2 rfl ?_
  refine g_iconst X dX0_offset_1 ?_
  refine g_aload_n X dX0_offset_2 rfl hl 0 rfl ?_
  refine g_iload_n X dX0_offset_3 rfl hl 1 rfl ?_
  have hol := hO.lt
  refine g_wcalli (g_xrunV X hk (As := [.int (iI j)]) (rest := [.int (iI 0), .ref ob]) rfl (GP.X hP) (p_offset l E hst ad S j s.heap hP hI hj) 1 (lw_V q483 q484 q485 q46 q486) (by decide +kernel) ⟨⟨Nat.le_of_ble_eq_true rfl, Nat.le_of_ble_eq_true rfl⟩, Nat.le_of_ble_eq_true rfl, Nat.le_of_ble_eq_true rfl⟩ rfl rfl hl.1 (Nat.le_of_ble_eq_true rfl) dX0_offset_4) hk hS (fun q h => Or.inl (Or.inr h)) (fun q h => Nat.le_trans hk.N h) (fun k nm cel q H locs hE hm hk ho_ hS hce hcv hcl => ?_) (fun z H locs hP_ hk hz_ ho_ hS => ?_)
  · have hP := hP.new ho_
    have hO := hO.kept (ho_ ob hO.lt)
    rcases k with _ | k
    · obtain rfl : nm = nIx := (Option.some.inj hm).symm
      refine vx_catch (own := RX0) (name := nIx) X.1.2.2.2.1 (tableOf []) ⟨0, 9, 12, 19⟩ (tableOf []) htab (fun z hz => nomatch hz) (by decide) (by decide) (X.1.2.2.2.2 _ q259) (va_Nw.use rfl (hk.ev.2.2.1 _ (List.mem_of_getElem? (i := 2) rfl))) hce hcv hcl ?_
      refine g_astore_n (lv' := [(3, .ref q), (0, .ref (ad 6 0)), (1, .int (iI j)), (2, .ref ob)]) X dX0_offset_12 rfl hl (by decide) rfl (fun ls hl => ?_)
      refine g_iconst X dX0_offset_13 ?_
      exact vx_ret (g_iret X hS (wrO.no hE hP hO rfl) ⟨Nat.le_of_ble_eq_true rfl, Nat.le_of_ble_eq_true rfl⟩ dX0_offset_14)
    · cases hm
  · obtain ⟨he, hz, hP1⟩ := hP_
    subst hz
    have hW1 : adW (gN S) (gN S) ad s.heap ad := gW_rf
    have hO := hO.kept (ho_ ob hO.lt (fun h2 => absurd hO.lt (Nat.not_lt.mpr h2)))
    refine lv_i2l X.1.1 X.1.2.1 dX0_offset_7 (v := lI (gOff S (j.toNat))) rfl ?_
    refine g_last X hk hS ⟨Or.inr rfl, hoN⟩ hO (j := 0) rfl (by decide) dX0_offset_8 (fun H locs hO hk hz2_ ho_ hS => ?_)
    have hP1 := hP1.kept (fun k i hv => ho_ _ (gW_ne (hW1.2 k i hv) hOA hol))
    refine g_goto X dX0_offset_9 (tgt := 15) (by decide) ?_
    refine g_iconst X dX0_offset_15 ?_
    exact vx_ret (g_iret X hS (wrO.ok he hP1 hW1 hO (lg_s _ _) rfl) ⟨Nat.le_of_ble_eq_true rfl, Nat.le_of_ble_eq_true rfl⟩ dX0_offset_16)
set_option maxHeartbeats 4000000 in
theorem w_isGreen (l : Launch) (E : EP) (hst : l.stackTraces = false) (ad : Nat → Nat → Nat) (S : GS) (ob : Nat) (og : Nat → Int64) (j v t : Int) (H : Heap) (hP : GP E ad S H) (hI : gI S) (hj : -2147483648 ≤ j ∧ j ≤ 2147483647) (hv : -2147483648 ≤ v ∧ v ≤ 2147483647) (ht : -2147483648 ≤ t ∧ t ≤ 2147483647) (hO : ce E ob (aL E 1 og) H) (hOA : ∀ k i, gv (gN S) k i → ad k i ≠ ob) (hoN : eN E ≤ ob) : gWi l E yX0_isGreen cX0_isGreen 6 [(0, 19, 22, 19), (0, 19, 26, 13), (0, 19, 30, 21)] 10 6 130 H [.ref (ad 6 0), .int (iI j), .int (iI v), .int (iI t), .ref ob] (oW (gN S) ad ob H) (wrO E ad S ob H (erS S j v t) S (bZ (gAt S (j.toNat) v t))) := by
  refine g_metH (by decide) (Nat.le_of_ble_eq_true rfl) (fun P_ e_ s M_ bl mt_ c_ ls X htab hk hh hl => ?_)
  subst hh
  have X : gX P_ s M_ mt_ c_ cX0_isGreen 6 ([.ref (ad 6 0), .int (iI j), .int (iI v), .int (iI t), .ref ob] : List Value).toArray RX0 (some .int) := X
  have hl : lv_has ls 6 [(0, .ref (ad 6 0)), (1, .int (iI j)), (2, .int (iI v)), (3, .int (iI t)), (4, .ref ob)] := hl
  have hS : va_S (oW (gN S) ad ob s.heap) s.heap s.heap [] := va_S.rf
  refine g_aload X dX0_isGreen_0 hl 4 rfl ?_
  refine g_iconst X dX0_isGreen_2 ?_
  refine g_aload_n X dX0_isGreen_3 rfl hl 0 rfl ?_
  refine g_iload_n X dX0_isGreen_4 rfl hl 1 rfl ?_
  refine g_iload_n X dX0_isGreen_5 rfl hl 2 rfl ?_
  refine g_iload_n X dX0_isGreen_6 rfl hl 3 rfl ?_
  have hol := hO.lt
  refine g_wcalli (g_xrunV X hk (As := [.int (iI j), .int (iI v), .int (iI t)]) (rest := [.int (iI 0), .ref ob]) rfl (GP.X hP) (p_isGreen l E hst ad S j v t s.heap hP hI hj hv ht) 3 (lw_V q490 q491 q492 q46 q493) (by decide +kernel) ⟨⟨Nat.le_of_ble_eq_true rfl, Nat.le_of_ble_eq_true rfl⟩, Nat.le_of_ble_eq_true rfl, Nat.le_of_ble_eq_true rfl⟩ rfl rfl hl.1 (Nat.le_of_ble_eq_true rfl) dX0_isGreen_7) hk hS (fun q h => Or.inl (Or.inr h)) (fun q h => Nat.le_trans hk.N h) (fun k nm cel q H locs hE hm hk ho_ hS hce hcv hcl => ?_) (fun z H locs hP_ hk hz_ ho_ hS => ?_)
  · have hP := hP.new ho_
    have hO := hO.kept (ho_ ob hO.lt)
    rcases k with _ | _ | _ | k
    · obtain rfl : nm = nIx := (Option.some.inj hm).symm
      refine vx_catch (own := RX0) (name := nIx) X.1.2.2.2.1 (tableOf []) ⟨0, 19, 22, 19⟩ (tableOf [(0, 19, 26, 13), (0, 19, 30, 21)]) htab (fun z hz => nomatch hz) (by decide) (by decide) (X.1.2.2.2.2 _ q259) (va_Nw.use rfl (hk.ev.2.2.1 _ (List.mem_of_getElem? (i := 2) rfl))) hce hcv hcl ?_
      refine g_astore (lv' := [(5, .ref q), (0, .ref (ad 6 0)), (1, .int (iI j)), (2, .int (iI v)), (3, .int (iI t)), (4, .ref ob)]) X dX0_isGreen_22 hl (by decide) rfl (fun ls hl => ?_)
      refine g_iconst X dX0_isGreen_24 ?_
      exact vx_ret (g_iret X hS (wrO.no hE hP hO rfl) ⟨Nat.le_of_ble_eq_true rfl, Nat.le_of_ble_eq_true rfl⟩ dX0_isGreen_25)
    · obtain rfl : nm = nAr := (Option.some.inj hm).symm
      refine vx_catch (own := RX0) (name := nAr) X.1.2.2.2.1 (tableOf [(0, 19, 22, 19)]) ⟨0, 19, 26, 13⟩ (tableOf [(0, 19, 30, 21)]) htab (fun z hz => by rcases List.mem_singleton.mp hz with rfl; exact Or.inr ⟨by decide, nIx, X.1.2.2.2.2 _ q259, hk.ev.2.2.2.2.1 _ (List.mem_of_getElem? (i := 1) rfl)⟩) (by decide) (by decide) (X.1.2.2.2.2 _ q180) (va_Nw.use rfl (hk.ev.2.2.1 _ (List.mem_of_getElem? (i := 1) rfl))) hce hcv hcl ?_
      refine g_astore (lv' := [(5, .ref q), (0, .ref (ad 6 0)), (1, .int (iI j)), (2, .int (iI v)), (3, .int (iI t)), (4, .ref ob)]) X dX0_isGreen_26 hl (by decide) rfl (fun ls hl => ?_)
      refine g_iconst X dX0_isGreen_28 ?_
      exact vx_ret (g_iret X hS (wrO.no hE hP hO rfl) ⟨Nat.le_of_ble_eq_true rfl, Nat.le_of_ble_eq_true rfl⟩ dX0_isGreen_29)
    · obtain rfl : nm = nSt := (Option.some.inj hm).symm
      refine vx_catch (own := RX0) (name := nSt) X.1.2.2.2.1 (tableOf [(0, 19, 22, 19), (0, 19, 26, 13)]) ⟨0, 19, 30, 21⟩ (tableOf []) htab (fun z hz => by rcases List.mem_cons.mp hz with rfl | hz; exact Or.inr ⟨by decide, nIx, X.1.2.2.2.2 _ q259, hk.ev.2.2.2.2.1 _ (List.mem_of_getElem? (i := 3) rfl)⟩; rcases List.mem_singleton.mp hz with rfl; exact Or.inr ⟨by decide, nAr, X.1.2.2.2.2 _ q180, hk.ev.2.2.2.2.1 _ (List.mem_of_getElem? (i := 2) rfl)⟩) (by decide) (by decide) (X.1.2.2.2.2 _ q292) (va_Nw.use rfl (hk.ev.2.2.1 _ (List.mem_of_getElem? (i := 3) rfl))) hce hcv hcl ?_
      refine g_astore (lv' := [(5, .ref q), (0, .ref (ad 6 0)), (1, .int (iI j)), (2, .int (iI v)), (3, .int (iI t)), (4, .ref ob)]) X dX0_isGreen_30 hl (by decide) rfl (fun ls hl => ?_)
      refine g_iconst X dX0_isGreen_32 ?_
      exact vx_ret (g_iret X hS (wrO.no hE hP hO rfl) ⟨Nat.le_of_ble_eq_true rfl, Nat.le_of_ble_eq_true rfl⟩ dX0_isGreen_33)
    · cases hm
  · obtain ⟨he, hz, hP1⟩ := hP_
    subst hz
    have hW1 : adW (gN S) (gN S) ad s.heap ad := gW_rf
    have hO := hO.kept (ho_ ob hO.lt (fun h2 => absurd hO.lt (Nat.not_lt.mpr h2)))
    have hzb := bZ_le (gAt S (j.toNat) v t)
    refine g_if_eq X dX0_isGreen_10 (tgt := 17) (by decide) (by omega) (fun c10 => ?_) (fun c10 => ?_)
    · refine lv_lconst X.1.1 X.1.2.1 dX0_isGreen_17 (v := 0) rfl ?_
      have hb_ : (bZ (gAt S (j.toNat) v t)) = 0 := by omega
      refine g_last X hk hS ⟨Or.inr rfl, hoN⟩ hO (j := 0) rfl (by decide) dX0_isGreen_18 (fun H locs hO hk hz2_ ho_ hS => ?_)
      have hP1 := hP1.kept (fun k i hv => ho_ _ (gW_ne (hW1.2 k i hv) hOA hol))
      refine g_goto X dX0_isGreen_19 (tgt := 34) (by decide) ?_
      refine g_iconst X dX0_isGreen_34 ?_
      exact vx_ret (g_iret X hS (wrO.ok he hP1 hW1 hO (by rw [hb_]; exact lg_s _ _) rfl) ⟨Nat.le_of_ble_eq_true rfl, Nat.le_of_ble_eq_true rfl⟩ dX0_isGreen_35)
    · refine lv_lconst X.1.1 X.1.2.1 dX0_isGreen_13 (v := 1) rfl ?_
      have hb_ : (bZ (gAt S (j.toNat) v t)) = 1 := by omega
      refine g_goto X dX0_isGreen_14 (tgt := 18) (by decide) ?_
      refine g_last X hk hS ⟨Or.inr rfl, hoN⟩ hO (j := 0) rfl (by decide) dX0_isGreen_18 (fun H locs hO hk hz2_ ho_ hS => ?_)
      have hP1 := hP1.kept (fun k i hv => ho_ _ (gW_ne (hW1.2 k i hv) hOA hol))
      refine g_goto X dX0_isGreen_19 (tgt := 34) (by decide) ?_
      refine g_iconst X dX0_isGreen_34 ?_
      exact vx_ret (g_iret X hS (wrO.ok he hP1 hW1 hO (by rw [hb_]; exact lg_s _ _) rfl) ⟨Nat.le_of_ble_eq_true rfl, Nat.le_of_ble_eq_true rfl⟩ dX0_isGreen_35)
set_option maxHeartbeats 4000000 in
theorem w_breaches (l : Launch) (E : EP) (hst : l.stackTraces = false) (ad : Nat → Nat → Nat) (S : GS) (ob : Nat) (og : Nat → Int64) (j : Int) (H : Heap) (hP : GP E ad S H) (hI : gI S) (hj : -2147483648 ≤ j ∧ j ≤ 2147483647) (hO : ce E ob (aL E 1 og) H) (hOA : ∀ k i, gv (gN S) k i → ad k i ≠ ob) (hoN : eN E ≤ ob) : gWi l E yX0_breaches cX0_breaches 4 [(0, 9, 12, 19), (0, 9, 15, 21)] 10 11 400 H [.ref (ad 6 0), .int (iI j), .ref ob] (oW (gN S) ad ob H) (wrO E ad S ob H (erN S j) S (bpK S (j.toNat) (gCyc S).toNat)) := by
  refine g_metH (by decide) (Nat.le_of_ble_eq_true rfl) (fun P_ e_ s M_ bl mt_ c_ ls X htab hk hh hl => ?_)
  subst hh
  have X : gX P_ s M_ mt_ c_ cX0_breaches 4 ([.ref (ad 6 0), .int (iI j), .ref ob] : List Value).toArray RX0 (some .int) := X
  have hl : lv_has ls 4 [(0, .ref (ad 6 0)), (1, .int (iI j)), (2, .ref ob)] := hl
  have hS : va_S (oW (gN S) ad ob s.heap) s.heap s.heap [] := va_S.rf
  refine g_aload_n X dX0_breaches_0 rfl hl 2 rfl ?_
  refine g_iconst X dX0_breaches_1 ?_
  refine g_aload_n X dX0_breaches_2 rfl hl 0 rfl ?_
  refine g_iload_n X dX0_breaches_3 rfl hl 1 rfl ?_
  have hol := hO.lt
  refine g_wcalli (g_xrunV X hk (As := [.int (iI j)]) (rest := [.int (iI 0), .ref ob]) rfl (GP.X hP) (p_breaches l E hst ad S j s.heap hP hI hj) 1 (lw_V q498 q499 q500 q46 q501) (by decide +kernel) ⟨⟨Nat.le_of_ble_eq_true rfl, Nat.le_of_ble_eq_true rfl⟩, Nat.le_of_ble_eq_true rfl, Nat.le_of_ble_eq_true rfl⟩ rfl rfl hl.1 (Nat.le_of_ble_eq_true rfl) dX0_breaches_4) hk hS (fun q h => Or.inl (Or.inr h)) (fun q h => Nat.le_trans hk.N h) (fun k nm cel q H locs hE hm hk ho_ hS hce hcv hcl => ?_) (fun z H locs hP_ hk hz_ ho_ hS => ?_)
  · have hP := hP.new ho_
    have hO := hO.kept (ho_ ob hO.lt)
    rcases k with _ | _ | k
    · obtain rfl : nm = nIx := (Option.some.inj hm).symm
      refine vx_catch (own := RX0) (name := nIx) X.1.2.2.2.1 (tableOf []) ⟨0, 9, 12, 19⟩ (tableOf [(0, 9, 15, 21)]) htab (fun z hz => nomatch hz) (by decide) (by decide) (X.1.2.2.2.2 _ q259) (va_Nw.use rfl (hk.ev.2.2.1 _ (List.mem_of_getElem? (i := 2) rfl))) hce hcv hcl ?_
      refine g_astore_n (lv' := [(3, .ref q), (0, .ref (ad 6 0)), (1, .int (iI j)), (2, .ref ob)]) X dX0_breaches_12 rfl hl (by decide) rfl (fun ls hl => ?_)
      refine g_iconst X dX0_breaches_13 ?_
      exact vx_ret (g_iret X hS (wrO.no hE hP hO rfl) ⟨Nat.le_of_ble_eq_true rfl, Nat.le_of_ble_eq_true rfl⟩ dX0_breaches_14)
    · obtain rfl : nm = nSt := (Option.some.inj hm).symm
      refine vx_catch (own := RX0) (name := nSt) X.1.2.2.2.1 (tableOf [(0, 9, 12, 19)]) ⟨0, 9, 15, 21⟩ (tableOf []) htab (fun z hz => by rcases List.mem_singleton.mp hz with rfl; exact Or.inr ⟨by decide, nIx, X.1.2.2.2.2 _ q259, hk.ev.2.2.2.2.1 _ (List.mem_of_getElem? (i := 3) rfl)⟩) (by decide) (by decide) (X.1.2.2.2.2 _ q292) (va_Nw.use rfl (hk.ev.2.2.1 _ (List.mem_of_getElem? (i := 3) rfl))) hce hcv hcl ?_
      refine g_astore_n (lv' := [(3, .ref q), (0, .ref (ad 6 0)), (1, .int (iI j)), (2, .ref ob)]) X dX0_breaches_15 rfl hl (by decide) rfl (fun ls hl => ?_)
      refine g_iconst X dX0_breaches_16 ?_
      exact vx_ret (g_iret X hS (wrO.no hE hP hO rfl) ⟨Nat.le_of_ble_eq_true rfl, Nat.le_of_ble_eq_true rfl⟩ dX0_breaches_17)
    · cases hm
  · obtain ⟨he, hz, hP1⟩ := hP_
    subst hz
    have hW1 : adW (gN S) (gN S) ad s.heap ad := gW_rf
    have hO := hO.kept (ho_ ob hO.lt (fun h2 => absurd hO.lt (Nat.not_lt.mpr h2)))
    refine lv_i2l X.1.1 X.1.2.1 dX0_breaches_7 (v := lI (bpK S (j.toNat) (gCyc S).toNat)) rfl ?_
    refine g_last X hk hS ⟨Or.inr rfl, hoN⟩ hO (j := 0) rfl (by decide) dX0_breaches_8 (fun H locs hO hk hz2_ ho_ hS => ?_)
    have hP1 := hP1.kept (fun k i hv => ho_ _ (gW_ne (hW1.2 k i hv) hOA hol))
    refine g_goto X dX0_breaches_9 (tgt := 18) (by decide) ?_
    refine g_iconst X dX0_breaches_18 ?_
    exact vx_ret (g_iret X hS (wrO.ok he hP1 hW1 hO (lg_s _ _) rfl) ⟨Nat.le_of_ble_eq_true rfl, Nat.le_of_ble_eq_true rfl⟩ dX0_breaches_19)
set_option maxHeartbeats 4000000 in
theorem w_bandT (l : Launch) (E : EP) (hst : l.stackTraces = false) (ad : Nat → Nat → Nat) (S : GS) (ob : Nat) (og : Nat → Int64) (H : Heap) (hP : GP E ad S H) (hI : gI S)  (hO : ce E ob (aL E 1 og) H) (hOA : ∀ k i, gv (gN S) k i → ad k i ≠ ob) (hoN : eN E ≤ ob) : gWi l E yX0_band cX0_band 4 [(0, 9, 12, 21)] 10 22 956 H [.ref (ad 6 0), .int (iI 1), .ref ob] (oW (gN S) ad ob H) (wrO E ad S ob H (erD S) S (bnd S true)) := by
  refine g_metH (by decide) (Nat.le_of_ble_eq_true rfl) (fun P_ e_ s M_ bl mt_ c_ ls X htab hk hh hl => ?_)
  subst hh
  have X : gX P_ s M_ mt_ c_ cX0_band 4 ([.ref (ad 6 0), .int (iI 1), .ref ob] : List Value).toArray RX0 (some .int) := X
  have hl : lv_has ls 4 [(0, .ref (ad 6 0)), (1, .int (iI 1)), (2, .ref ob)] := hl
  have hS : va_S (oW (gN S) ad ob s.heap) s.heap s.heap [] := va_S.rf
  refine g_aload_n X dX0_band_0 rfl hl 2 rfl ?_
  refine g_iconst X dX0_band_1 ?_
  refine g_aload_n X dX0_band_2 rfl hl 0 rfl ?_
  refine g_iload_n X dX0_band_3 rfl hl 1 rfl ?_
  have hol := hO.lt
  refine g_wcalli (g_xrunV X hk (As := [.int (iI 1)]) (rest := [.int (iI 0), .ref ob]) rfl (GP.X hP) (p_bandT l E hst ad S  s.heap hP hI ) 1 (lw_V q505 q506 q507 q46 q508) (by decide +kernel) ⟨⟨Nat.le_of_ble_eq_true rfl, Nat.le_of_ble_eq_true rfl⟩, Nat.le_of_ble_eq_true rfl, Nat.le_of_ble_eq_true rfl⟩ rfl rfl hl.1 (Nat.le_of_ble_eq_true rfl) dX0_band_4) hk hS (fun q h => Or.inl (Or.inr h)) (fun q h => Nat.le_trans hk.N h) (fun k nm cel q H locs hE hm hk ho_ hS hce hcv hcl => ?_) (fun z H locs hP_ hk hz_ ho_ hS => ?_)
  · have hP := hP.new ho_
    have hO := hO.kept (ho_ ob hO.lt)
    rcases k with _ | k
    · obtain rfl : nm = nSt := (Option.some.inj hm).symm
      refine vx_catch (own := RX0) (name := nSt) X.1.2.2.2.1 (tableOf []) ⟨0, 9, 12, 21⟩ (tableOf []) htab (fun z hz => nomatch hz) (by decide) (by decide) (X.1.2.2.2.2 _ q292) (va_Nw.use rfl (hk.ev.2.2.1 _ (List.mem_of_getElem? (i := 3) rfl))) hce hcv hcl ?_
      refine g_astore_n (lv' := [(3, .ref q), (0, .ref (ad 6 0)), (1, .int (iI 1)), (2, .ref ob)]) X dX0_band_12 rfl hl (by decide) rfl (fun ls hl => ?_)
      refine g_iconst X dX0_band_13 ?_
      exact vx_ret (g_iret X hS (wrO.no hE hP hO rfl) ⟨Nat.le_of_ble_eq_true rfl, Nat.le_of_ble_eq_true rfl⟩ dX0_band_14)
    · cases hm
  · obtain ⟨he, hz, hP1⟩ := hP_
    subst hz
    have hW1 : adW (gN S) (gN S) ad s.heap ad := gW_rf
    have hO := hO.kept (ho_ ob hO.lt (fun h2 => absurd hO.lt (Nat.not_lt.mpr h2)))
    refine lv_i2l X.1.1 X.1.2.1 dX0_band_7 (v := lI (bnd S true)) rfl ?_
    refine g_last X hk hS ⟨Or.inr rfl, hoN⟩ hO (j := 0) rfl (by decide) dX0_band_8 (fun H locs hO hk hz2_ ho_ hS => ?_)
    have hP1 := hP1.kept (fun k i hv => ho_ _ (gW_ne (hW1.2 k i hv) hOA hol))
    refine g_goto X dX0_band_9 (tgt := 15) (by decide) ?_
    refine g_iconst X dX0_band_15 ?_
    exact vx_ret (g_iret X hS (wrO.ok he hP1 hW1 hO (lg_s _ _) rfl) ⟨Nat.le_of_ble_eq_true rfl, Nat.le_of_ble_eq_true rfl⟩ dX0_band_16)
set_option maxHeartbeats 4000000 in
theorem w_bandF (l : Launch) (E : EP) (hst : l.stackTraces = false) (ad : Nat → Nat → Nat) (S : GS) (ob : Nat) (og : Nat → Int64) (H : Heap) (hP : GP E ad S H) (hI : gI S)  (hO : ce E ob (aL E 1 og) H) (hOA : ∀ k i, gv (gN S) k i → ad k i ≠ ob) (hoN : eN E ≤ ob) : gWi l E yX0_band cX0_band 4 [(0, 9, 12, 21)] 10 22 956 H [.ref (ad 6 0), .int (iI 0), .ref ob] (oW (gN S) ad ob H) (wrO E ad S ob H (erD S) S (bnd S false)) := by
  refine g_metH (by decide) (Nat.le_of_ble_eq_true rfl) (fun P_ e_ s M_ bl mt_ c_ ls X htab hk hh hl => ?_)
  subst hh
  have X : gX P_ s M_ mt_ c_ cX0_band 4 ([.ref (ad 6 0), .int (iI 0), .ref ob] : List Value).toArray RX0 (some .int) := X
  have hl : lv_has ls 4 [(0, .ref (ad 6 0)), (1, .int (iI 0)), (2, .ref ob)] := hl
  have hS : va_S (oW (gN S) ad ob s.heap) s.heap s.heap [] := va_S.rf
  refine g_aload_n X dX0_band_0 rfl hl 2 rfl ?_
  refine g_iconst X dX0_band_1 ?_
  refine g_aload_n X dX0_band_2 rfl hl 0 rfl ?_
  refine g_iload_n X dX0_band_3 rfl hl 1 rfl ?_
  have hol := hO.lt
  refine g_wcalli (g_xrunV X hk (As := [.int (iI 0)]) (rest := [.int (iI 0), .ref ob]) rfl (GP.X hP) (p_bandF l E hst ad S  s.heap hP hI ) 1 (lw_V q505 q506 q507 q46 q508) (by decide +kernel) ⟨⟨Nat.le_of_ble_eq_true rfl, Nat.le_of_ble_eq_true rfl⟩, Nat.le_of_ble_eq_true rfl, Nat.le_of_ble_eq_true rfl⟩ rfl rfl hl.1 (Nat.le_of_ble_eq_true rfl) dX0_band_4) hk hS (fun q h => Or.inl (Or.inr h)) (fun q h => Nat.le_trans hk.N h) (fun k nm cel q H locs hE hm hk ho_ hS hce hcv hcl => ?_) (fun z H locs hP_ hk hz_ ho_ hS => ?_)
  · have hP := hP.new ho_
    have hO := hO.kept (ho_ ob hO.lt)
    rcases k with _ | k
    · obtain rfl : nm = nSt := (Option.some.inj hm).symm
      refine vx_catch (own := RX0) (name := nSt) X.1.2.2.2.1 (tableOf []) ⟨0, 9, 12, 21⟩ (tableOf []) htab (fun z hz => nomatch hz) (by decide) (by decide) (X.1.2.2.2.2 _ q292) (va_Nw.use rfl (hk.ev.2.2.1 _ (List.mem_of_getElem? (i := 3) rfl))) hce hcv hcl ?_
      refine g_astore_n (lv' := [(3, .ref q), (0, .ref (ad 6 0)), (1, .int (iI 0)), (2, .ref ob)]) X dX0_band_12 rfl hl (by decide) rfl (fun ls hl => ?_)
      refine g_iconst X dX0_band_13 ?_
      exact vx_ret (g_iret X hS (wrO.no hE hP hO rfl) ⟨Nat.le_of_ble_eq_true rfl, Nat.le_of_ble_eq_true rfl⟩ dX0_band_14)
    · cases hm
  · obtain ⟨he, hz, hP1⟩ := hP_
    subst hz
    have hW1 : adW (gN S) (gN S) ad s.heap ad := gW_rf
    have hO := hO.kept (ho_ ob hO.lt (fun h2 => absurd hO.lt (Nat.not_lt.mpr h2)))
    refine lv_i2l X.1.1 X.1.2.1 dX0_band_7 (v := lI (bnd S false)) rfl ?_
    refine g_last X hk hS ⟨Or.inr rfl, hoN⟩ hO (j := 0) rfl (by decide) dX0_band_8 (fun H locs hO hk hz2_ ho_ hS => ?_)
    have hP1 := hP1.kept (fun k i hv => ho_ _ (gW_ne (hW1.2 k i hv) hOA hol))
    refine g_goto X dX0_band_9 (tgt := 15) (by decide) ?_
    refine g_iconst X dX0_band_15 ?_
    exact vx_ret (g_iret X hS (wrO.ok he hP1 hW1 hO (lg_s _ _) rfl) ⟨Nat.le_of_ble_eq_true rfl, Nat.le_of_ble_eq_true rfl⟩ dX0_band_16)
set_option maxHeartbeats 4000000 in
theorem w_bestByAll (l : Launch) (E : EP) (hst : l.stackTraces = false) (ad : Nat → Nat → Nat) (S : GS) (ob : Nat) (og : Nat → Int64) (H : Heap) (hP : GP E ad S H) (hI : gI S)  (hO : ce E ob (aL E 1 og) H) (hOA : ∀ k i, gv (gN S) k i → ad k i ≠ ob) (hoN : eN E ≤ ob) : gWi l E yX0_bestByAll cX0_bestByAll 3 [(0, 8, 11, 21)] 10 24 970 H [.ref (ad 6 0), .ref ob] (oW (gN S) ad ob H) (wrO E ad S ob H (erA S) S (baM S (baN S).toNat)) := by
  refine g_metH (by decide) (Nat.le_of_ble_eq_true rfl) (fun P_ e_ s M_ bl mt_ c_ ls X htab hk hh hl => ?_)
  subst hh
  have X : gX P_ s M_ mt_ c_ cX0_bestByAll 3 ([.ref (ad 6 0), .ref ob] : List Value).toArray RX0 (some .int) := X
  have hl : lv_has ls 3 [(0, .ref (ad 6 0)), (1, .ref ob)] := hl
  have hS : va_S (oW (gN S) ad ob s.heap) s.heap s.heap [] := va_S.rf
  refine g_aload_n X dX0_bestByAll_0 rfl hl 1 rfl ?_
  refine g_iconst X dX0_bestByAll_1 ?_
  refine g_aload_n X dX0_bestByAll_2 rfl hl 0 rfl ?_
  have hol := hO.lt
  refine g_wcalli (g_xrunV X hk (As := []) (rest := [.int (iI 0), .ref ob]) rfl (GP.X hP) (p_bestByAll l E hst ad S  s.heap hP hI ) 0 (lw_V q512 q513 q514 q46 q515) (by decide +kernel) ⟨⟨Nat.le_of_ble_eq_true rfl, Nat.le_of_ble_eq_true rfl⟩, Nat.le_of_ble_eq_true rfl, Nat.le_of_ble_eq_true rfl⟩ rfl rfl hl.1 (Nat.le_of_ble_eq_true rfl) dX0_bestByAll_3) hk hS (fun q h => Or.inl h) (GP.N hP hk.N) (fun k nm cel q H locs hE hm hk ho_ hS hce hcv hcl => ?_) (fun z H locs hP_ hk hz_ ho_ hS => ?_)
  · have hP := hP.new ho_
    have hO := hO.kept (ho_ ob hO.lt)
    rcases k with _ | k
    · obtain rfl : nm = nSt := (Option.some.inj hm).symm
      refine vx_catch (own := RX0) (name := nSt) X.1.2.2.2.1 (tableOf []) ⟨0, 8, 11, 21⟩ (tableOf []) htab (fun z hz => nomatch hz) (by decide) (by decide) (X.1.2.2.2.2 _ q292) (va_Nw.use rfl (hk.ev.2.2.1 _ (List.mem_of_getElem? (i := 3) rfl))) hce hcv hcl ?_
      refine g_astore_n (lv' := [(2, .ref q), (0, .ref (ad 6 0)), (1, .ref ob)]) X dX0_bestByAll_11 rfl hl (by decide) rfl (fun ls hl => ?_)
      refine g_iconst X dX0_bestByAll_12 ?_
      exact vx_ret (g_iret X hS (wrO.no hE hP hO rfl) ⟨Nat.le_of_ble_eq_true rfl, Nat.le_of_ble_eq_true rfl⟩ dX0_bestByAll_13)
    · cases hm
  · obtain ⟨he, hz, hP1⟩ := hP_
    subst hz
    have hW1 : adW (gN S) (gN S) ad s.heap ad := gW_rf
    have hO := hO.kept (ho_ ob hO.lt (gW_no hOA hO.lt))
    refine lv_i2l X.1.1 X.1.2.1 dX0_bestByAll_6 (v := lI (baM S (baN S).toNat)) rfl ?_
    refine g_last X hk hS ⟨Or.inr rfl, hoN⟩ hO (j := 0) rfl (by decide) dX0_bestByAll_7 (fun H locs hO hk hz2_ ho_ hS => ?_)
    have hP1 := hP1.kept (fun k i hv => ho_ _ (gW_ne (hW1.2 k i hv) hOA hol))
    refine g_goto X dX0_bestByAll_8 (tgt := 14) (by decide) ?_
    refine g_iconst X dX0_bestByAll_14 ?_
    exact vx_ret (g_iret X hS (wrO.ok he hP1 hW1 hO (lg_s _ _) rfl) ⟨Nat.le_of_ble_eq_true rfl, Nat.le_of_ble_eq_true rfl⟩ dX0_bestByAll_15)
set_option maxHeartbeats 4000000 in
theorem w_run (l : Launch) (E : EP) (hst : l.stackTraces = false) (ad : Nat → Nat → Nat) (S : GS) (ob : Nat) (og : Nat → Int64) (t : Int) (M : MS) (H : Heap) (hP : GP E ad S H) (hI : gI S) (ht : -2147483648 ≤ t ∧ t ≤ 2147483647) (hRL : RL S M) (hO : ce E ob (aL E 1 og) H) (hOA : ∀ k i, gv (gN S) k i → ad k i ≠ ob) (hoN : eN E ≤ ob) : gWi l E yX0_run cX0_run 4 [(0, 9, 12, 13), (0, 9, 15, 21)] 10 8 40 H [.ref (ad 6 0), .int (iI t), .ref ob] (oW (gN S) ad ob H) (wrO E ad S ob H (erR S t) (sRun (gset S 33 0 0 1) t.toNat) (gLef (sRun (gset S 33 0 0 1) t.toNat) - gLef S)) := by
  refine g_metH (by decide) (Nat.le_of_ble_eq_true rfl) (fun P_ e_ s M_ bl mt_ c_ ls X htab hk hh hl => ?_)
  subst hh
  have X : gX P_ s M_ mt_ c_ cX0_run 4 ([.ref (ad 6 0), .int (iI t), .ref ob] : List Value).toArray RX0 (some .int) := X
  have hl : lv_has ls 4 [(0, .ref (ad 6 0)), (1, .int (iI t)), (2, .ref ob)] := hl
  have hS : va_S (oW (gN S) ad ob s.heap) s.heap s.heap [] := va_S.rf
  refine g_aload_n X dX0_run_0 rfl hl 2 rfl ?_
  refine g_iconst X dX0_run_1 ?_
  refine g_aload_n X dX0_run_2 rfl hl 0 rfl ?_
  refine g_iload_n X dX0_run_3 rfl hl 1 rfl ?_
  have hol := hO.lt
  refine g_wcalli (g_xrunV X hk (As := [.int (iI t)]) (rest := [.int (iI 0), .ref ob]) rfl (GP.X hP) (p_run l E hst ad S M t s.heap hP hI hRL ht) 1 (lw_V q519 q520 q521 q46 q522) (by decide +kernel) ⟨⟨Nat.le_of_ble_eq_true rfl, Nat.le_of_ble_eq_true rfl⟩, Nat.le_of_ble_eq_true rfl, Nat.le_of_ble_eq_true rfl⟩ rfl rfl hl.1 (Nat.le_of_ble_eq_true rfl) dX0_run_4) hk hS (fun q h => Or.inl h) (GP.N hP hk.N) (fun k nm cel q H locs hE hm hk ho_ hS hce hcv hcl => ?_) (fun z H locs hP_ hk hz_ ho_ hS => ?_)
  · have hP := hP.new ho_
    have hO := hO.kept (ho_ ob hO.lt)
    rcases k with _ | _ | k
    · obtain rfl : nm = nAr := (Option.some.inj hm).symm
      refine vx_catch (own := RX0) (name := nAr) X.1.2.2.2.1 (tableOf []) ⟨0, 9, 12, 13⟩ (tableOf [(0, 9, 15, 21)]) htab (fun z hz => nomatch hz) (by decide) (by decide) (X.1.2.2.2.2 _ q180) (va_Nw.use rfl (hk.ev.2.2.1 _ (List.mem_of_getElem? (i := 1) rfl))) hce hcv hcl ?_
      refine g_astore_n (lv' := [(3, .ref q), (0, .ref (ad 6 0)), (1, .int (iI t)), (2, .ref ob)]) X dX0_run_12 rfl hl (by decide) rfl (fun ls hl => ?_)
      refine g_iconst X dX0_run_13 ?_
      exact vx_ret (g_iret X hS (wrO.no hE hP hO rfl) ⟨Nat.le_of_ble_eq_true rfl, Nat.le_of_ble_eq_true rfl⟩ dX0_run_14)
    · obtain rfl : nm = nSt := (Option.some.inj hm).symm
      refine vx_catch (own := RX0) (name := nSt) X.1.2.2.2.1 (tableOf [(0, 9, 12, 13)]) ⟨0, 9, 15, 21⟩ (tableOf []) htab (fun z hz => by rcases List.mem_singleton.mp hz with rfl; exact Or.inr ⟨by decide, nAr, X.1.2.2.2.2 _ q180, hk.ev.2.2.2.2.1 _ (List.mem_of_getElem? (i := 2) rfl)⟩) (by decide) (by decide) (X.1.2.2.2.2 _ q292) (va_Nw.use rfl (hk.ev.2.2.1 _ (List.mem_of_getElem? (i := 3) rfl))) hce hcv hcl ?_
      refine g_astore_n (lv' := [(3, .ref q), (0, .ref (ad 6 0)), (1, .int (iI t)), (2, .ref ob)]) X dX0_run_15 rfl hl (by decide) rfl (fun ls hl => ?_)
      refine g_iconst X dX0_run_16 ?_
      exact vx_ret (g_iret X hS (wrO.no hE hP hO rfl) ⟨Nat.le_of_ble_eq_true rfl, Nat.le_of_ble_eq_true rfl⟩ dX0_run_17)
    · cases hm
  · obtain ⟨he, hz, hP1⟩ := hP_
    subst hz
    have hW1 : adW (gN (sRun (gset S 33 0 0 1) t.toNat)) (gN S) ad s.heap ad := by rw [(sRun_dy (gset S 33 0 0 1) t.toNat).n]; exact gW_rf
    have hO := hO.kept (ho_ ob hO.lt (gW_no hOA hO.lt))
    refine lv_i2l X.1.1 X.1.2.1 dX0_run_7 (v := lI (gLef (sRun (gset S 33 0 0 1) t.toNat) - gLef S)) rfl ?_
    refine g_last X hk hS ⟨Or.inr rfl, hoN⟩ hO (j := 0) rfl (by decide) dX0_run_8 (fun H locs hO hk hz2_ ho_ hS => ?_)
    have hP1 := hP1.kept (fun k i hv => ho_ _ (gW_ne (hW1.2 k i hv) hOA hol))
    refine g_goto X dX0_run_9 (tgt := 18) (by decide) ?_
    refine g_iconst X dX0_run_18 ?_
    exact vx_ret (g_iret X hS (wrO.ok he hP1 hW1 hO (lg_s _ _) rfl) ⟨Nat.le_of_ble_eq_true rfl, Nat.le_of_ble_eq_true rfl⟩ dX0_run_19)
set_option maxHeartbeats 4000000 in
theorem w_callBus (l : Launch) (E : EP) (hst : l.stackTraces = false) (ad : Nat → Nat → Nat) (S : GS) (ob : Nat) (og : Nat → Int64) (j v : Int) (H : Heap) (hP : GP E ad S H) (hI : gI S) (hj : -2147483648 ≤ j ∧ j ≤ 2147483647) (hv : -2147483648 ≤ v ∧ v ≤ 2147483647) (hO : ce E ob (aL E 1 og) H) (hOA : ∀ k i, gv (gN S) k i → ad k i ≠ ob) (hoN : eN E ≤ ob) : gWi l E yX0_callBus cX0_callBus 5 [(0, 10, 13, 19), (0, 10, 17, 21)] 10 6 26 H [.ref (ad 6 0), .int (iI j), .int (iI v), .ref ob] (oW (gN S) ad ob H) (wrO E ad S ob H (erU S j v) (cbS S (j.toNat) v) (cbZ S (j.toNat) v)) := by
  refine g_metH (by decide) (Nat.le_of_ble_eq_true rfl) (fun P_ e_ s M_ bl mt_ c_ ls X htab hk hh hl => ?_)
  subst hh
  have X : gX P_ s M_ mt_ c_ cX0_callBus 5 ([.ref (ad 6 0), .int (iI j), .int (iI v), .ref ob] : List Value).toArray RX0 (some .int) := X
  have hl : lv_has ls 5 [(0, .ref (ad 6 0)), (1, .int (iI j)), (2, .int (iI v)), (3, .ref ob)] := hl
  have hS : va_S (oW (gN S) ad ob s.heap) s.heap s.heap [] := va_S.rf
  refine g_aload_n X dX0_callBus_0 rfl hl 3 rfl ?_
  refine g_iconst X dX0_callBus_1 ?_
  refine g_aload_n X dX0_callBus_2 rfl hl 0 rfl ?_
  refine g_iload_n X dX0_callBus_3 rfl hl 1 rfl ?_
  refine g_iload_n X dX0_callBus_4 rfl hl 2 rfl ?_
  have hol := hO.lt
  refine g_wcalli (g_xrunV X hk (As := [.int (iI j), .int (iI v)]) (rest := [.int (iI 0), .ref ob]) rfl (GP.X hP) (p_callBus l E hst ad S j v s.heap hP hI hj hv) 2 (lw_V q549 q550 q551 q46 q552) (by decide +kernel) ⟨⟨Nat.le_of_ble_eq_true rfl, Nat.le_of_ble_eq_true rfl⟩, Nat.le_of_ble_eq_true rfl, Nat.le_of_ble_eq_true rfl⟩ rfl rfl hl.1 (Nat.le_of_ble_eq_true rfl) dX0_callBus_5) hk hS (fun q h => Or.inl h) (GP.N hP hk.N) (fun k nm cel q H locs hE hm hk ho_ hS hce hcv hcl => ?_) (fun z H locs hP_ hk hz_ ho_ hS => ?_)
  · have hP := hP.new ho_
    have hO := hO.kept (ho_ ob hO.lt)
    rcases k with _ | _ | k
    · obtain rfl : nm = nIx := (Option.some.inj hm).symm
      refine vx_catch (own := RX0) (name := nIx) X.1.2.2.2.1 (tableOf []) ⟨0, 10, 13, 19⟩ (tableOf [(0, 10, 17, 21)]) htab (fun z hz => nomatch hz) (by decide) (by decide) (X.1.2.2.2.2 _ q259) (va_Nw.use rfl (hk.ev.2.2.1 _ (List.mem_of_getElem? (i := 2) rfl))) hce hcv hcl ?_
      refine g_astore (lv' := [(4, .ref q), (0, .ref (ad 6 0)), (1, .int (iI j)), (2, .int (iI v)), (3, .ref ob)]) X dX0_callBus_13 hl (by decide) rfl (fun ls hl => ?_)
      refine g_iconst X dX0_callBus_15 ?_
      exact vx_ret (g_iret X hS (wrO.no hE hP hO rfl) ⟨Nat.le_of_ble_eq_true rfl, Nat.le_of_ble_eq_true rfl⟩ dX0_callBus_16)
    · obtain rfl : nm = nSt := (Option.some.inj hm).symm
      refine vx_catch (own := RX0) (name := nSt) X.1.2.2.2.1 (tableOf [(0, 10, 13, 19)]) ⟨0, 10, 17, 21⟩ (tableOf []) htab (fun z hz => by rcases List.mem_singleton.mp hz with rfl; exact Or.inr ⟨by decide, nIx, X.1.2.2.2.2 _ q259, hk.ev.2.2.2.2.1 _ (List.mem_of_getElem? (i := 3) rfl)⟩) (by decide) (by decide) (X.1.2.2.2.2 _ q292) (va_Nw.use rfl (hk.ev.2.2.1 _ (List.mem_of_getElem? (i := 3) rfl))) hce hcv hcl ?_
      refine g_astore (lv' := [(4, .ref q), (0, .ref (ad 6 0)), (1, .int (iI j)), (2, .int (iI v)), (3, .ref ob)]) X dX0_callBus_17 hl (by decide) rfl (fun ls hl => ?_)
      refine g_iconst X dX0_callBus_19 ?_
      exact vx_ret (g_iret X hS (wrO.no hE hP hO rfl) ⟨Nat.le_of_ble_eq_true rfl, Nat.le_of_ble_eq_true rfl⟩ dX0_callBus_20)
    · cases hm
  · obtain ⟨he, hz, ad1, hP1, hW1⟩ := hP_
    subst hz
    have hO := hO.kept (ho_ ob hO.lt (gW_no hOA hO.lt))
    refine lv_i2l X.1.1 X.1.2.1 dX0_callBus_8 (v := lI (cbZ S (j.toNat) v)) rfl ?_
    refine g_last X hk hS ⟨Or.inr rfl, hoN⟩ hO (j := 0) rfl (by decide) dX0_callBus_9 (fun H locs hO hk hz2_ ho_ hS => ?_)
    have hP1 := hP1.kept (fun k i hv => ho_ _ (gW_ne (hW1.2 k i hv) hOA hol))
    refine g_goto X dX0_callBus_10 (tgt := 21) (by decide) ?_
    refine g_iconst X dX0_callBus_21 ?_
    exact vx_ret (g_iret X hS (wrO.ok he hP1 hW1 hO (lg_s _ _) rfl) ⟨Nat.le_of_ble_eq_true rfl, Nat.le_of_ble_eq_true rfl⟩ dX0_callBus_22)
set_option maxHeartbeats 4000000 in
theorem w_phaseNow (l : Launch) (E : EP) (hst : l.stackTraces = false) (ad : Nat → Nat → Nat) (S : GS) (ob : Nat) (og : Nat → Int64) (j : Int) (H : Heap) (hP : GP E ad S H) (hI : gI S) (hj : -2147483648 ≤ j ∧ j ≤ 2147483647) (hO : ce E ob (aL E 1 og) H) (hOA : ∀ k i, gv (gN S) k i → ad k i ≠ ob) (hoN : eN E ≤ ob) : gWi l E yX0_phaseNow cX0_phaseNow 4 [(0, 9, 12, 19), (0, 9, 15, 21)] 10 3 16 H [.ref (ad 6 0), .int (iI j), .ref ob] (oW (gN S) ad ob H) (wrO E ad S ob H (erN S j) S (phN S (j.toNat) (grn S (j.toNat)) (gNow S))) := by
  refine g_metH (by decide) (Nat.le_of_ble_eq_true rfl) (fun P_ e_ s M_ bl mt_ c_ ls X htab hk hh hl => ?_)
  subst hh
  have X : gX P_ s M_ mt_ c_ cX0_phaseNow 4 ([.ref (ad 6 0), .int (iI j), .ref ob] : List Value).toArray RX0 (some .int) := X
  have hl : lv_has ls 4 [(0, .ref (ad 6 0)), (1, .int (iI j)), (2, .ref ob)] := hl
  have hS : va_S (oW (gN S) ad ob s.heap) s.heap s.heap [] := va_S.rf
  refine g_aload_n X dX0_phaseNow_0 rfl hl 2 rfl ?_
  refine g_iconst X dX0_phaseNow_1 ?_
  refine g_aload_n X dX0_phaseNow_2 rfl hl 0 rfl ?_
  refine g_iload_n X dX0_phaseNow_3 rfl hl 1 rfl ?_
  have hol := hO.lt
  refine g_wcalli (g_xrunV X hk (As := [.int (iI j)]) (rest := [.int (iI 0), .ref ob]) rfl (GP.X hP) (p_phaseNow l E hst ad S j s.heap hP hI hj) 1 (lw_V q568 q569 q570 q46 q571) (by decide +kernel) ⟨⟨Nat.le_of_ble_eq_true rfl, Nat.le_of_ble_eq_true rfl⟩, Nat.le_of_ble_eq_true rfl, Nat.le_of_ble_eq_true rfl⟩ rfl rfl hl.1 (Nat.le_of_ble_eq_true rfl) dX0_phaseNow_4) hk hS (fun q h => Or.inl (Or.inr h)) (fun q h => Nat.le_trans hk.N h) (fun k nm cel q H locs hE hm hk ho_ hS hce hcv hcl => ?_) (fun z H locs hP_ hk hz_ ho_ hS => ?_)
  · have hP := hP.new ho_
    have hO := hO.kept (ho_ ob hO.lt)
    rcases k with _ | _ | k
    · obtain rfl : nm = nIx := (Option.some.inj hm).symm
      refine vx_catch (own := RX0) (name := nIx) X.1.2.2.2.1 (tableOf []) ⟨0, 9, 12, 19⟩ (tableOf [(0, 9, 15, 21)]) htab (fun z hz => nomatch hz) (by decide) (by decide) (X.1.2.2.2.2 _ q259) (va_Nw.use rfl (hk.ev.2.2.1 _ (List.mem_of_getElem? (i := 2) rfl))) hce hcv hcl ?_
      refine g_astore_n (lv' := [(3, .ref q), (0, .ref (ad 6 0)), (1, .int (iI j)), (2, .ref ob)]) X dX0_phaseNow_12 rfl hl (by decide) rfl (fun ls hl => ?_)
      refine g_iconst X dX0_phaseNow_13 ?_
      exact vx_ret (g_iret X hS (wrO.no hE hP hO rfl) ⟨Nat.le_of_ble_eq_true rfl, Nat.le_of_ble_eq_true rfl⟩ dX0_phaseNow_14)
    · obtain rfl : nm = nSt := (Option.some.inj hm).symm
      refine vx_catch (own := RX0) (name := nSt) X.1.2.2.2.1 (tableOf [(0, 9, 12, 19)]) ⟨0, 9, 15, 21⟩ (tableOf []) htab (fun z hz => by rcases List.mem_singleton.mp hz with rfl; exact Or.inr ⟨by decide, nIx, X.1.2.2.2.2 _ q259, hk.ev.2.2.2.2.1 _ (List.mem_of_getElem? (i := 3) rfl)⟩) (by decide) (by decide) (X.1.2.2.2.2 _ q292) (va_Nw.use rfl (hk.ev.2.2.1 _ (List.mem_of_getElem? (i := 3) rfl))) hce hcv hcl ?_
      refine g_astore_n (lv' := [(3, .ref q), (0, .ref (ad 6 0)), (1, .int (iI j)), (2, .ref ob)]) X dX0_phaseNow_15 rfl hl (by decide) rfl (fun ls hl => ?_)
      refine g_iconst X dX0_phaseNow_16 ?_
      exact vx_ret (g_iret X hS (wrO.no hE hP hO rfl) ⟨Nat.le_of_ble_eq_true rfl, Nat.le_of_ble_eq_true rfl⟩ dX0_phaseNow_17)
    · cases hm
  · obtain ⟨he, hz, hP1⟩ := hP_
    subst hz
    have hW1 : adW (gN S) (gN S) ad s.heap ad := gW_rf
    have hO := hO.kept (ho_ ob hO.lt (fun h2 => absurd hO.lt (Nat.not_lt.mpr h2)))
    refine lv_i2l X.1.1 X.1.2.1 dX0_phaseNow_7 (v := lI (phN S (j.toNat) (grn S (j.toNat)) (gNow S))) rfl ?_
    refine g_last X hk hS ⟨Or.inr rfl, hoN⟩ hO (j := 0) rfl (by decide) dX0_phaseNow_8 (fun H locs hO hk hz2_ ho_ hS => ?_)
    have hP1 := hP1.kept (fun k i hv => ho_ _ (gW_ne (hW1.2 k i hv) hOA hol))
    refine g_goto X dX0_phaseNow_9 (tgt := 18) (by decide) ?_
    refine g_iconst X dX0_phaseNow_18 ?_
    exact vx_ret (g_iret X hS (wrO.ok he hP1 hW1 hO (lg_s _ _) rfl) ⟨Nat.le_of_ble_eq_true rfl, Nat.le_of_ble_eq_true rfl⟩ dX0_phaseNow_19)
set_option maxHeartbeats 4000000 in
theorem w_queue (l : Launch) (E : EP) (hst : l.stackTraces = false) (ad : Nat → Nat → Nat) (S : GS) (ob : Nat) (og : Nat → Int64) (j : Int) (H : Heap) (hP : GP E ad S H) (hI : gI S) (hj : -2147483648 ≤ j ∧ j ≤ 2147483647) (hO : ce E ob (aL E 1 og) H) (hOA : ∀ k i, gv (gN S) k i → ad k i ≠ ob) (hoN : eN E ≤ ob) : gWi l E yX0_queue cX0_queue 4 [(0, 9, 12, 19)] 10 1 6 H [.ref (ad 6 0), .int (iI j), .ref ob] (oW (gN S) ad ob H) (wrO E ad S ob H (erJ S j) S (gQue S (j.toNat))) := by
  refine g_metH (by decide) (Nat.le_of_ble_eq_true rfl) (fun P_ e_ s M_ bl mt_ c_ ls X htab hk hh hl => ?_)
  subst hh
  have X : gX P_ s M_ mt_ c_ cX0_queue 4 ([.ref (ad 6 0), .int (iI j), .ref ob] : List Value).toArray RX0 (some .int) := X
  have hl : lv_has ls 4 [(0, .ref (ad 6 0)), (1, .int (iI j)), (2, .ref ob)] := hl
  have hS : va_S (oW (gN S) ad ob s.heap) s.heap s.heap [] := va_S.rf
  refine g_aload_n X dX0_queue_0 rfl hl 2 rfl ?_
  refine g_iconst X dX0_queue_1 ?_
  refine g_aload_n X dX0_queue_2 rfl hl 0 rfl ?_
  refine g_iload_n X dX0_queue_3 rfl hl 1 rfl ?_
  have hol := hO.lt
  refine g_wcalli (g_xrunV X hk (As := [.int (iI j)]) (rest := [.int (iI 0), .ref ob]) rfl (GP.X hP) (p_queue l E hst ad S j s.heap hP hI hj) 1 (lw_V q580 q581 q582 q46 q583) (by decide +kernel) ⟨⟨Nat.le_of_ble_eq_true rfl, Nat.le_of_ble_eq_true rfl⟩, Nat.le_of_ble_eq_true rfl, Nat.le_of_ble_eq_true rfl⟩ rfl rfl hl.1 (Nat.le_of_ble_eq_true rfl) dX0_queue_4) hk hS (fun q h => Or.inl (Or.inr h)) (fun q h => Nat.le_trans hk.N h) (fun k nm cel q H locs hE hm hk ho_ hS hce hcv hcl => ?_) (fun z H locs hP_ hk hz_ ho_ hS => ?_)
  · have hP := hP.new ho_
    have hO := hO.kept (ho_ ob hO.lt)
    rcases k with _ | k
    · obtain rfl : nm = nIx := (Option.some.inj hm).symm
      refine vx_catch (own := RX0) (name := nIx) X.1.2.2.2.1 (tableOf []) ⟨0, 9, 12, 19⟩ (tableOf []) htab (fun z hz => nomatch hz) (by decide) (by decide) (X.1.2.2.2.2 _ q259) (va_Nw.use rfl (hk.ev.2.2.1 _ (List.mem_of_getElem? (i := 2) rfl))) hce hcv hcl ?_
      refine g_astore_n (lv' := [(3, .ref q), (0, .ref (ad 6 0)), (1, .int (iI j)), (2, .ref ob)]) X dX0_queue_12 rfl hl (by decide) rfl (fun ls hl => ?_)
      refine g_iconst X dX0_queue_13 ?_
      exact vx_ret (g_iret X hS (wrO.no hE hP hO rfl) ⟨Nat.le_of_ble_eq_true rfl, Nat.le_of_ble_eq_true rfl⟩ dX0_queue_14)
    · cases hm
  · obtain ⟨he, hz, hP1⟩ := hP_
    subst hz
    have hW1 : adW (gN S) (gN S) ad s.heap ad := gW_rf
    have hO := hO.kept (ho_ ob hO.lt (fun h2 => absurd hO.lt (Nat.not_lt.mpr h2)))
    refine lv_i2l X.1.1 X.1.2.1 dX0_queue_7 (v := lI (gQue S (j.toNat))) rfl ?_
    refine g_last X hk hS ⟨Or.inr rfl, hoN⟩ hO (j := 0) rfl (by decide) dX0_queue_8 (fun H locs hO hk hz2_ ho_ hS => ?_)
    have hP1 := hP1.kept (fun k i hv => ho_ _ (gW_ne (hW1.2 k i hv) hOA hol))
    refine g_goto X dX0_queue_9 (tgt := 15) (by decide) ?_
    refine g_iconst X dX0_queue_15 ?_
    exact vx_ret (g_iret X hS (wrO.ok he hP1 hW1 hO (lg_s _ _) rfl) ⟨Nat.le_of_ble_eq_true rfl, Nat.le_of_ble_eq_true rfl⟩ dX0_queue_16)
set_option maxHeartbeats 4000000 in
theorem w_held (l : Launch) (E : EP) (hst : l.stackTraces = false) (ad : Nat → Nat → Nat) (S : GS) (ob : Nat) (og : Nat → Int64) (j : Int) (H : Heap) (hP : GP E ad S H) (hI : gI S) (hj : -2147483648 ≤ j ∧ j ≤ 2147483647) (hO : ce E ob (aL E 1 og) H) (hOA : ∀ k i, gv (gN S) k i → ad k i ≠ ob) (hoN : eN E ≤ ob) : gWi l E yX0_held cX0_held 4 [(0, 9, 12, 19)] 10 1 6 H [.ref (ad 6 0), .int (iI j), .ref ob] (oW (gN S) ad ob H) (wrO E ad S ob H (erH S j) S (gTrv S (j.toNat) + gQue S ((j.toNat) + 1))) := by
  refine g_metH (by decide) (Nat.le_of_ble_eq_true rfl) (fun P_ e_ s M_ bl mt_ c_ ls X htab hk hh hl => ?_)
  subst hh
  have X : gX P_ s M_ mt_ c_ cX0_held 4 ([.ref (ad 6 0), .int (iI j), .ref ob] : List Value).toArray RX0 (some .int) := X
  have hl : lv_has ls 4 [(0, .ref (ad 6 0)), (1, .int (iI j)), (2, .ref ob)] := hl
  have hS : va_S (oW (gN S) ad ob s.heap) s.heap s.heap [] := va_S.rf
  refine g_aload_n X dX0_held_0 rfl hl 2 rfl ?_
  refine g_iconst X dX0_held_1 ?_
  refine g_aload_n X dX0_held_2 rfl hl 0 rfl ?_
  refine g_iload_n X dX0_held_3 rfl hl 1 rfl ?_
  have hol := hO.lt
  refine g_wcalli (g_xrunV X hk (As := [.int (iI j)]) (rest := [.int (iI 0), .ref ob]) rfl (GP.X hP) (p_held l E hst ad S j s.heap hP hI hj) 1 (lw_V q587 q588 q589 q46 q590) (by decide +kernel) ⟨⟨Nat.le_of_ble_eq_true rfl, Nat.le_of_ble_eq_true rfl⟩, Nat.le_of_ble_eq_true rfl, Nat.le_of_ble_eq_true rfl⟩ rfl rfl hl.1 (Nat.le_of_ble_eq_true rfl) dX0_held_4) hk hS (fun q h => Or.inl (Or.inr h)) (fun q h => Nat.le_trans hk.N h) (fun k nm cel q H locs hE hm hk ho_ hS hce hcv hcl => ?_) (fun z H locs hP_ hk hz_ ho_ hS => ?_)
  · have hP := hP.new ho_
    have hO := hO.kept (ho_ ob hO.lt)
    rcases k with _ | k
    · obtain rfl : nm = nIx := (Option.some.inj hm).symm
      refine vx_catch (own := RX0) (name := nIx) X.1.2.2.2.1 (tableOf []) ⟨0, 9, 12, 19⟩ (tableOf []) htab (fun z hz => nomatch hz) (by decide) (by decide) (X.1.2.2.2.2 _ q259) (va_Nw.use rfl (hk.ev.2.2.1 _ (List.mem_of_getElem? (i := 2) rfl))) hce hcv hcl ?_
      refine g_astore_n (lv' := [(3, .ref q), (0, .ref (ad 6 0)), (1, .int (iI j)), (2, .ref ob)]) X dX0_held_12 rfl hl (by decide) rfl (fun ls hl => ?_)
      refine g_iconst X dX0_held_13 ?_
      exact vx_ret (g_iret X hS (wrO.no hE hP hO rfl) ⟨Nat.le_of_ble_eq_true rfl, Nat.le_of_ble_eq_true rfl⟩ dX0_held_14)
    · cases hm
  · obtain ⟨he, hz, hP1⟩ := hP_
    subst hz
    have hW1 : adW (gN S) (gN S) ad s.heap ad := gW_rf
    have hO := hO.kept (ho_ ob hO.lt (fun h2 => absurd hO.lt (Nat.not_lt.mpr h2)))
    refine lv_i2l X.1.1 X.1.2.1 dX0_held_7 (v := lI (gTrv S (j.toNat) + gQue S ((j.toNat) + 1))) rfl ?_
    refine g_last X hk hS ⟨Or.inr rfl, hoN⟩ hO (j := 0) rfl (by decide) dX0_held_8 (fun H locs hO hk hz2_ ho_ hS => ?_)
    have hP1 := hP1.kept (fun k i hv => ho_ _ (gW_ne (hW1.2 k i hv) hOA hol))
    refine g_goto X dX0_held_9 (tgt := 15) (by decide) ?_
    refine g_iconst X dX0_held_15 ?_
    exact vx_ret (g_iret X hS (wrO.ok he hP1 hW1 hO (lg_s _ _) rfl) ⟨Nat.le_of_ble_eq_true rfl, Nat.le_of_ble_eq_true rfl⟩ dX0_held_16)
