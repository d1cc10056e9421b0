/-! the law, case by case -/
section LS
variable {p : Program} {l : Launch} {e : Env} {R : Room} {s : State} {m : MethodId} {args : Array Value} {below : List Frame} {meth : Method} {c : Code} {H : Heap} {locs : List Loc} {cells slots : Nat} {Q : State → Prop}
variable {cc : ByteArray} {nL : Nat} {own : String} {ret : Option FieldType} {pc : Nat} {ls : Array Slot} {rest : List Value}
theorem g_icmp_same (X : gX p s m meth c cc nL args own ret) {a : Int} {off : Int} {tgt : Nat} (hdg : decode cc pc = .ok (.if_icmp .eq off, 3)) (ht : (pc : Int) + off = (tgt : Int)) (kt : W p l e R s m args below meth c H locs cells slots Q (F0 m tgt ls rest)) : W p l e R s m args below meth c H locs cells slots Q (F0 m pc ls (.int (iI a) :: .int (iI a) :: rest)) :=
  lv_icmp_eq X.1.1 X.1.2.1 hdg ht (fun _ => kt) (fun q => absurd rfl q)
end LS
set_option maxHeartbeats 4000000 in
theorem lc_0 {P_ : Program} {e_ : Env} {s : State} {M_ : MethodId} {bl : List Frame} {mt_ : Method} {c_ : Code} (l : Launch) (hst : l.stackTraces = false) {E : EP} {b L : Nat} {xs : Nat → Int32} (X : gX P_ s M_ mt_ c_ cL_law 7 ([.ref b] : List Value).toArray RX0 (some .boolean)) (hX : va_X b L xs s s.heap) (hbl : b < s.heap.size) (hL : L ≤ 384) (hE : eN E = s.heap.size) {Q : State → Prop} (ad : Nat → Nat → Nat) (S : GS) (am : Nat → Nat) (M : MS) (ob : Nat) (og : Nat → Int64) (H : Heap) (locs : List Loc) (ls : Array Slot) (cc_ sl_ i : Nat) (hR : cc_ + 100 ≤ 1200384 ∧ sl_ + 5000 ≤ 5488810) (hi : i + 5 < L) (hk : kk E s H) (hS : va_S (nA s.heap) s.heap H locs) (hPR : PR E ad S am M ob og H) (hRL : RL S M) (hl : lv_has ls 7 [(4, .int (iI ((i : Nat) : Int))), (0, .ref b), (1, .ref (ad 6 0)), (2, .ref (am 0)), (3, .ref ob)])
    (K : ∀ (ad1 : Nat → Nat → Nat) (S1 : GS) (M1 : MS) (og1 : Nat → Int64) (H1 : Heap) (locs1 : List Loc) (ls1 : Array Slot), kk E s H1 → va_S (nA s.heap) s.heap H1 locs1 → PR E ad1 S1 am M1 ob og1 H1 → RL S1 M1 → ad1 6 0 = ad 6 0 → lv_has ls1 7 [(4, .int (iI ((i : Nat) : Int))), (0, .ref b), (1, .ref (ad 6 0)), (2, .ref (am 0)), (3, .ref ob)] → W P_ l e_ room_1 s M_ ([.ref b] : List Value).toArray bl mt_ c_ H1 locs1 (cc_ + 100) (sl_ + 5000) Q (F0 M_ 1506 ls1 [])) : W P_ l e_ room_1 s M_ ([.ref b] : List Value).toArray bl mt_ c_ H locs cc_ sl_ Q (F0 M_ 152 ls []) := by
  obtain ⟨y1, ey1⟩ : ∃ y : Int, y = (xs (i + 1)).toInt := ⟨_, rfl⟩
  have hy1 : -2147483648 ≤ y1 ∧ y1 ≤ 2147483647 := by rw [ey1]; exact iI_rng _
  obtain ⟨y2, ey2⟩ : ∃ y : Int, y = (xs (i + 2)).toInt := ⟨_, rfl⟩
  have hy2 : -2147483648 ≤ y2 ∧ y2 ≤ 2147483647 := by rw [ey2]; exact iI_rng _
  obtain ⟨hI, hMR, hMD, hMC, hMI, hid⟩ := id hRL
  have her : 0 ≤ erB y1 y2 ∧ erB y1 y2 ≤ 1 := by unfold erB; (repeat' split) <;> omega
  refine g_aload_n X dL_law_152 rfl hl 2 rfl ?_
  refine g_aload_n X dL_law_153 rfl hl 1 rfl ?_
  refine g_iload X dL_law_154 hl 0 rfl ?_
  refine g_iconst X dL_law_156 ?_
  refine g_iadd X dL_law_157 ?_
  refine g_sld X hX hbl hS (v := y1) (j := i + 1) (by omega) (by omega) ey1.symm dL_law_158 ?_
  refine g_aload_n X dL_law_159 rfl hl 1 rfl ?_
  refine g_iload X dL_law_160 hl 0 rfl ?_
  refine g_iconst X dL_law_162 ?_
  refine g_iadd X dL_law_163 ?_
  refine g_sld X hX hbl hS (v := y2) (j := i + 2) (by omega) (by omega) ey2.symm dL_law_164 ?_
  have hkN := hk.N
  refine g_wrun X hk hS (As := [.ref (ad 6 0), .int (iI y1), .int (iI y2)]) (rest := []) (w_begin l E hst ad S y1 y2 H hPR.pp hI hy1 hy2 ) 3 (lw_SW q177 q178 q45 q179) (by decide +kernel) ⟨⟨Nat.le_of_ble_eq_true rfl, Nat.le_of_ble_eq_true rfl⟩, by show cc_ + 33 ≤ 1200384; omega, by show sl_ + 510 ≤ 5488810; omega⟩ rfl rfl hl.1 (Nat.le_of_ble_eq_true rfl) dL_law_165 (fun q h => by have := hPR.gWn hkN q h; omega) (hPR.gWn hkN) (fun z H locs hw hk hz_ ho_ hS => ?_)
  obtain ⟨hz0, ad1, S1, hPR, ead, h0, h1⟩ := hPR.wn hw ho_
  subst hz0
  refine g_istore (lv' := [(5, .int (iI (erB y1 y2))), (4, .int (iI ((i : Nat) : Int))), (0, .ref b), (1, .ref (ad 6 0)), (2, .ref (am 0)), (3, .ref ob)]) X dL_law_168 hl (by decide) rfl (fun ls hl => ?_)
  refine g_aload_n X dL_law_170 rfl hl 4 rfl ?_
  refine g_aload_n X dL_law_171 rfl hl 2 rfl ?_
  refine g_iload X dL_law_172 hl 1 rfl ?_
  refine g_iconst X dL_law_174 ?_
  refine g_iadd X dL_law_175 ?_
  refine g_sld X hX hbl hS (v := y1) (j := i + 1) (by omega) (by omega) ey1.symm dL_law_176 ?_
  refine g_aload_n X dL_law_177 rfl hl 2 rfl ?_
  refine g_iload X dL_law_178 hl 1 rfl ?_
  refine g_iconst X dL_law_180 ?_
  refine g_iadd X dL_law_181 ?_
  refine g_sld X hX hbl hS (v := y2) (j := i + 2) (by omega) (by omega) ey2.symm dL_law_182 ?_
  refine g_callv (g_runV X hk (As := [.int (iI y1), .int (iI y2)]) (rest := []) rfl (MP.O hPR.mm) (m_begin l E am M H hPR.mm y1 y2 hy1 hy2) 2 (lw_V q687 q688 q689 q48 q690) (by decide +kernel) ⟨⟨Nat.le_of_ble_eq_true rfl, Nat.le_of_ble_eq_true rfl⟩, by show cc_ + 33 + 0 ≤ 1200384; omega, by show sl_ + 510 + 0 ≤ 5488810; omega⟩ rfl rfl hl.1 (Nat.le_of_ble_eq_true rfl) dL_law_183) hk hS (fun q h => by have := MP.N hPR.mm q h; omega) (MP.N hPR.mm) (fun H locs hP_ hk hz_ ho2_ hS => ?_)
  obtain ⟨M1, hM1, t1, a0, b1⟩ := hP_
  have hPR2 := hPR.md hM1 ho2_
  have ht1 : 0 ≤ M1 0 0 ∧ M1 0 0 ≤ 3 := by rw [t1]; omega
  have hRL2 : RL S1 M1 := by by_cases e0 : erB y1 y2 = 0; (rw [h0 e0]; exact L_begin hRL e0 (a0 e0)); (rw [h1 e0]; exact hRL.Q (b1 e0))
  refine g_aload_n X dL_law_186 rfl hl 4 rfl ?_
  refine g_pV X hk (As := []) (rest := []) rfl (MP.O hPR2.mm) (m_thrown l E am M1 H hPR2.mm) 0 (lw_V q683 q684 q685 q48 q686) (by decide +kernel) ⟨⟨Nat.le_of_ble_eq_true rfl, Nat.le_of_ble_eq_true rfl⟩, by show cc_ + 33 ≤ 1200384; omega, by show sl_ + 510 ≤ 5488810; omega⟩ rfl rfl hl.1 (Nat.le_of_ble_eq_true rfl) dL_law_187 ?_
  refine g_iload X dL_law_190 hl 0 rfl ?_
  refine g_icmp_eq X dL_law_192 (tgt := 197) (by decide) (by omega) (fun c192 => ?_) (fun c192 => ?_)
  · refine g_goto X dL_law_197 (tgt := 1506) (by decide) ?_
    refine W.widen (k := cc_ + 100) (n := sl_ + 5000) (by omega) (by omega) ?_
    exact K ad1 S1 M1 og H locs ls hk hS hPR2 hRL2 ead (lv_sub hl [1, 2, 3, 4, 5] rfl)
  · exact absurd (t1) c192
set_option maxHeartbeats 4000000 in
theorem lc_1 {P_ : Program} {e_ : Env} {s : State} {M_ : MethodId} {bl : List Frame} {mt_ : Method} {c_ : Code} (l : Launch) (hst : l.stackTraces = false) {E : EP} {b L : Nat} {xs : Nat → Int32} (X : gX P_ s M_ mt_ c_ cL_law 7 ([.ref b] : List Value).toArray RX0 (some .boolean)) (hX : va_X b L xs s s.heap) (hbl : b < s.heap.size) (hL : L ≤ 384) (hE : eN E = s.heap.size) {Q : State → Prop} (ad : Nat → Nat → Nat) (S : GS) (am : Nat → Nat) (M : MS) (ob : Nat) (og : Nat → Int64) (H : Heap) (locs : List Loc) (ls : Array Slot) (cc_ sl_ i : Nat) (hR : cc_ + 100 ≤ 1200384 ∧ sl_ + 5000 ≤ 5488810) (hi : i + 5 < L) (hk : kk E s H) (hS : va_S (nA s.heap) s.heap H locs) (hPR : PR E ad S am M ob og H) (hRL : RL S M) (hl : lv_has ls 7 [(4, .int (iI ((i : Nat) : Int))), (0, .ref b), (1, .ref (ad 6 0)), (2, .ref (am 0)), (3, .ref ob)])
    (K : ∀ (ad1 : Nat → Nat → Nat) (S1 : GS) (M1 : MS) (og1 : Nat → Int64) (H1 : Heap) (locs1 : List Loc) (ls1 : Array Slot), kk E s H1 → va_S (nA s.heap) s.heap H1 locs1 → PR E ad1 S1 am M1 ob og1 H1 → RL S1 M1 → ad1 6 0 = ad 6 0 → lv_has ls1 7 [(4, .int (iI ((i : Nat) : Int))), (0, .ref b), (1, .ref (ad 6 0)), (2, .ref (am 0)), (3, .ref ob)] → W P_ l e_ room_1 s M_ ([.ref b] : List Value).toArray bl mt_ c_ H1 locs1 (cc_ + 100) (sl_ + 5000) Q (F0 M_ 1506 ls1 [])) : W P_ l e_ room_1 s M_ ([.ref b] : List Value).toArray bl mt_ c_ H locs cc_ sl_ Q (F0 M_ 200 ls []) := by
  obtain ⟨y1, ey1⟩ : ∃ y : Int, y = (xs (i + 1)).toInt := ⟨_, rfl⟩
  have hy1 : -2147483648 ≤ y1 ∧ y1 ≤ 2147483647 := by rw [ey1]; exact iI_rng _
  obtain ⟨y2, ey2⟩ : ∃ y : Int, y = (xs (i + 2)).toInt := ⟨_, rfl⟩
  have hy2 : -2147483648 ≤ y2 ∧ y2 ≤ 2147483647 := by rw [ey2]; exact iI_rng _
  obtain ⟨y3, ey3⟩ : ∃ y : Int, y = (xs (i + 3)).toInt := ⟨_, rfl⟩
  have hy3 : -2147483648 ≤ y3 ∧ y3 ≤ 2147483647 := by rw [ey3]; exact iI_rng _
  obtain ⟨y4, ey4⟩ : ∃ y : Int, y = (xs (i + 4)).toInt := ⟨_, rfl⟩
  have hy4 : -2147483648 ≤ y4 ∧ y4 ≤ 2147483647 := by rw [ey4]; exact iI_rng _
  obtain ⟨hI, hMR, hMD, hMC, hMI, hid⟩ := id hRL
  have her : 0 ≤ erC S y1 y2 y3 y4 ∧ erC S y1 y2 y3 y4 ≤ 3 := by unfold erC; (repeat' split) <;> omega
  refine g_aload_n X dL_law_200 rfl hl 2 rfl ?_
  refine g_aload_n X dL_law_201 rfl hl 1 rfl ?_
  refine g_iload X dL_law_202 hl 0 rfl ?_
  refine g_iconst X dL_law_204 ?_
  refine g_iadd X dL_law_205 ?_
  refine g_sld X hX hbl hS (v := y1) (j := i + 1) (by omega) (by omega) ey1.symm dL_law_206 ?_
  refine g_aload_n X dL_law_207 rfl hl 1 rfl ?_
  refine g_iload X dL_law_208 hl 0 rfl ?_
  refine g_iconst X dL_law_210 ?_
  refine g_iadd X dL_law_211 ?_
  refine g_sld X hX hbl hS (v := y2) (j := i + 2) (by omega) (by omega) ey2.symm dL_law_212 ?_
  refine g_aload_n X dL_law_213 rfl hl 1 rfl ?_
  refine g_iload X dL_law_214 hl 0 rfl ?_
  refine g_iconst X dL_law_216 ?_
  refine g_iadd X dL_law_217 ?_
  refine g_sld X hX hbl hS (v := y3) (j := i + 3) (by omega) (by omega) ey3.symm dL_law_218 ?_
  refine g_aload_n X dL_law_219 rfl hl 1 rfl ?_
  refine g_iload X dL_law_220 hl 0 rfl ?_
  refine g_iconst X dL_law_222 ?_
  refine g_iadd X dL_law_223 ?_
  refine g_sld X hX hbl hS (v := y4) (j := i + 4) (by omega) (by omega) ey4.symm dL_law_224 ?_
  refine g_aload_n X dL_law_225 rfl hl 4 rfl ?_
  have hkN := hk.N
  refine g_wrun X hk hS (As := [.ref (ad 6 0), .int (iI y1), .int (iI y2), .int (iI y3), .int (iI y4), .ref ob]) (rest := []) (w_setConflict l E hst ad S ob og y1 y2 y3 y4 H hPR.pp hI hy1 hy2 hy3 hy4 hPR.oo hPR.aa hPR.nn) 6 (lw_SW q256 q257 q45 q258) (by decide +kernel) ⟨⟨Nat.le_of_ble_eq_true rfl, Nat.le_of_ble_eq_true rfl⟩, by show cc_ + 5 ≤ 1200384; omega, by show sl_ + 32 ≤ 5488810; omega⟩ rfl rfl hl.1 (Nat.le_of_ble_eq_true rfl) dL_law_226 (fun q h => by have := hPR.oWn hkN q h; omega) (hPR.oWn hkN) (fun z H locs hw hk hz_ ho_ hS => ?_)
  obtain ⟨hz0, ad1, S1, og1, hPR, ead, h0, h1⟩ := hPR.wr hw ho_
  subst hz0
  refine g_istore (lv' := [(5, .int (iI (erC S y1 y2 y3 y4))), (4, .int (iI ((i : Nat) : Int))), (0, .ref b), (1, .ref (ad 6 0)), (2, .ref (am 0)), (3, .ref ob)]) X dL_law_229 hl (by decide) rfl (fun ls hl => ?_)
  refine g_aload_n X dL_law_231 rfl hl 4 rfl ?_
  refine g_aload_n X dL_law_232 rfl hl 2 rfl ?_
  refine g_iload X dL_law_233 hl 1 rfl ?_
  refine g_iconst X dL_law_235 ?_
  refine g_iadd X dL_law_236 ?_
  refine g_sld X hX hbl hS (v := y1) (j := i + 1) (by omega) (by omega) ey1.symm dL_law_237 ?_
  refine g_aload_n X dL_law_238 rfl hl 2 rfl ?_
  refine g_iload X dL_law_239 hl 1 rfl ?_
  refine g_iconst X dL_law_241 ?_
  refine g_iadd X dL_law_242 ?_
  refine g_sld X hX hbl hS (v := y2) (j := i + 2) (by omega) (by omega) ey2.symm dL_law_243 ?_
  refine g_aload_n X dL_law_244 rfl hl 2 rfl ?_
  refine g_iload X dL_law_245 hl 1 rfl ?_
  refine g_iconst X dL_law_247 ?_
  refine g_iadd X dL_law_248 ?_
  refine g_sld X hX hbl hS (v := y3) (j := i + 3) (by omega) (by omega) ey3.symm dL_law_249 ?_
  refine g_aload_n X dL_law_250 rfl hl 2 rfl ?_
  refine g_iload X dL_law_251 hl 1 rfl ?_
  refine g_iconst X dL_law_253 ?_
  refine g_iadd X dL_law_254 ?_
  refine g_sld X hX hbl hS (v := y4) (j := i + 4) (by omega) (by omega) ey4.symm dL_law_255 ?_
  refine g_calli (g_runV X hk (As := [.int (iI y1), .int (iI y2), .int (iI y3), .int (iI y4)]) (rest := []) rfl (MP.O hPR.mm) (m_setConflict l E am S M H hPR.mm hI hMR hMI y1 y2 y3 y4 hy1 hy2 hy3 hy4) 4 (lw_V q698 q699 q700 q48 q701) (by decide +kernel) ⟨⟨Nat.le_of_ble_eq_true rfl, Nat.le_of_ble_eq_true rfl⟩, by show cc_ + 5 + 0 ≤ 1200384; omega, by show sl_ + 32 + 0 ≤ 5488810; omega⟩ rfl rfl hl.1 (Nat.le_of_ble_eq_true rfl) dL_law_256) hk hS (fun q h => by have := MP.N hPR.mm q h; omega) (MP.N hPR.mm) (fun z2 H locs hP_ hk hz_ ho2_ hS => ?_)
  obtain ⟨M1, hM1, t1, a0, b1⟩ := hP_
  have a1 := fun e0 : erC S y1 y2 y3 y4 = 0 => (a0 e0).1
  have hPR2 := hPR.md hM1 ho2_
  have ht1 : 0 ≤ M1 0 0 ∧ M1 0 0 ≤ 3 := by rw [t1]; omega
  have hRL2 : RL S1 M1 := by by_cases e0 : erC S y1 y2 y3 y4 = 0; (rw [(h0 e0).1]; exact L_setConflict hRL e0 (a0 e0).2.1 (a0 e0).2.2); (rw [h1 e0]; exact hRL.Q (b1 e0))
  refine g_istore (lv' := [(6, .int (iI z2)), (5, .int (iI (erC S y1 y2 y3 y4))), (4, .int (iI ((i : Nat) : Int))), (0, .ref b), (1, .ref (ad 6 0)), (2, .ref (am 0)), (3, .ref ob)]) X dL_law_259 hl (by decide) rfl (fun ls hl => ?_)
  refine g_aload_n X dL_law_261 rfl hl 5 rfl ?_
  refine g_pV X hk (As := []) (rest := []) rfl (MP.O hPR2.mm) (m_thrown l E am M1 H hPR2.mm) 0 (lw_V q683 q684 q685 q48 q686) (by decide +kernel) ⟨⟨Nat.le_of_ble_eq_true rfl, Nat.le_of_ble_eq_true rfl⟩, by show cc_ + 5 ≤ 1200384; omega, by show sl_ + 32 ≤ 5488810; omega⟩ rfl rfl hl.1 (Nat.le_of_ble_eq_true rfl) dL_law_262 ?_
  refine g_iload X dL_law_265 hl 1 rfl ?_
  refine g_icmp_eq X dL_law_267 (tgt := 272) (by decide) (by omega) (fun c267 => ?_) (fun c267 => ?_)
  · refine g_iload X dL_law_272 hl 1 rfl ?_
    refine g_if_ne X dL_law_274 (tgt := 289) (by decide) (by omega) (fun c274 => ?_) (fun c274 => ?_)
    · refine g_goto X dL_law_289 (tgt := 1506) (by decide) ?_
      refine W.widen (k := cc_ + 100) (n := sl_ + 5000) (by omega) (by omega) ?_
      exact K ad1 S1 M1 og1 H locs ls hk hS hPR2 hRL2 ead (lv_sub hl [2, 3, 4, 5, 6] rfl)
    · refine g_aload_n X dL_law_277 rfl hl 6 rfl ?_
      refine g_iconst X dL_law_278 ?_
      have e0 : erC S y1 y2 y3 y4 = 0 := by omega
      refine g_lald X hk hPR2.oo (j := 0) rfl (by decide) dL_law_279 ?_
      refine g_iload X dL_law_280 hl 0 rfl ?_
      refine lv_i2l X.1.1 X.1.2.1 dL_law_282 (v := lI z2) rfl ?_
      refine g_lcmpE X (by rw [(h0 e0).2, a1 e0]) dL_law_283 ?_
      refine g_if_eq X dL_law_284 (tgt := 289) (by decide) (by omega) (fun c284 => ?_) (fun c284 => ?_)
      · refine g_goto X dL_law_289 (tgt := 1506) (by decide) ?_
        refine W.widen (k := cc_ + 100) (n := sl_ + 5000) (by omega) (by omega) ?_
        exact K ad1 S1 M1 og1 H locs ls hk hS hPR2 hRL2 ead (lv_sub hl [2, 3, 4, 5, 6] rfl)
      · exact absurd rfl c284
  · exact absurd (t1) c267
set_option maxHeartbeats 4000000 in
theorem lc_2 {P_ : Program} {e_ : Env} {s : State} {M_ : MethodId} {bl : List Frame} {mt_ : Method} {c_ : Code} (l : Launch) (hst : l.stackTraces = false) {E : EP} {b L : Nat} {xs : Nat → Int32} (X : gX P_ s M_ mt_ c_ cL_law 7 ([.ref b] : List Value).toArray RX0 (some .boolean)) (hX : va_X b L xs s s.heap) (hbl : b < s.heap.size) (hL : L ≤ 384) (hE : eN E = s.heap.size) {Q : State → Prop} (ad : Nat → Nat → Nat) (S : GS) (am : Nat → Nat) (M : MS) (ob : Nat) (og : Nat → Int64) (H : Heap) (locs : List Loc) (ls : Array Slot) (cc_ sl_ i : Nat) (hR : cc_ + 100 ≤ 1200384 ∧ sl_ + 5000 ≤ 5488810) (hi : i + 5 < L) (hk : kk E s H) (hS : va_S (nA s.heap) s.heap H locs) (hPR : PR E ad S am M ob og H) (hRL : RL S M) (hl : lv_has ls 7 [(4, .int (iI ((i : Nat) : Int))), (0, .ref b), (1, .ref (ad 6 0)), (2, .ref (am 0)), (3, .ref ob)])
    (K : ∀ (ad1 : Nat → Nat → Nat) (S1 : GS) (M1 : MS) (og1 : Nat → Int64) (H1 : Heap) (locs1 : List Loc) (ls1 : Array Slot), kk E s H1 → va_S (nA s.heap) s.heap H1 locs1 → PR E ad1 S1 am M1 ob og1 H1 → RL S1 M1 → ad1 6 0 = ad 6 0 → lv_has ls1 7 [(4, .int (iI ((i : Nat) : Int))), (0, .ref b), (1, .ref (ad 6 0)), (2, .ref (am 0)), (3, .ref ob)] → W P_ l e_ room_1 s M_ ([.ref b] : List Value).toArray bl mt_ c_ H1 locs1 (cc_ + 100) (sl_ + 5000) Q (F0 M_ 1506 ls1 [])) : W P_ l e_ room_1 s M_ ([.ref b] : List Value).toArray bl mt_ c_ H locs cc_ sl_ Q (F0 M_ 292 ls []) := by
  obtain ⟨y1, ey1⟩ : ∃ y : Int, y = (xs (i + 1)).toInt := ⟨_, rfl⟩
  have hy1 : -2147483648 ≤ y1 ∧ y1 ≤ 2147483647 := by rw [ey1]; exact iI_rng _
  obtain ⟨y2, ey2⟩ : ∃ y : Int, y = (xs (i + 2)).toInt := ⟨_, rfl⟩
  have hy2 : -2147483648 ≤ y2 ∧ y2 ≤ 2147483647 := by rw [ey2]; exact iI_rng _
  obtain ⟨y3, ey3⟩ : ∃ y : Int, y = (xs (i + 3)).toInt := ⟨_, rfl⟩
  have hy3 : -2147483648 ≤ y3 ∧ y3 ≤ 2147483647 := by rw [ey3]; exact iI_rng _
  obtain ⟨y4, ey4⟩ : ∃ y : Int, y = (xs (i + 4)).toInt := ⟨_, rfl⟩
  have hy4 : -2147483648 ≤ y4 ∧ y4 ≤ 2147483647 := by rw [ey4]; exact iI_rng _
  obtain ⟨y5, ey5⟩ : ∃ y : Int, y = (xs (i + 5)).toInt := ⟨_, rfl⟩
  have hy5 : -2147483648 ≤ y5 ∧ y5 ≤ 2147483647 := by rw [ey5]; exact iI_rng _
  obtain ⟨hI, hMR, hMD, hMC, hMI, hid⟩ := id hRL
  have her : 0 ≤ erP S y1 y2 y3 y4 y5 ∧ erP S y1 y2 y3 y4 y5 ≤ 3 := by unfold erP; (repeat' split) <;> omega
  refine g_aload_n X dL_law_292 rfl hl 2 rfl ?_
  refine g_aload_n X dL_law_293 rfl hl 1 rfl ?_
  refine g_iload X dL_law_294 hl 0 rfl ?_
  refine g_iconst X dL_law_296 ?_
  refine g_iadd X dL_law_297 ?_
  refine g_sld X hX hbl hS (v := y1) (j := i + 1) (by omega) (by omega) ey1.symm dL_law_298 ?_
  refine g_aload_n X dL_law_299 rfl hl 1 rfl ?_
  refine g_iload X dL_law_300 hl 0 rfl ?_
  refine g_iconst X dL_law_302 ?_
  refine g_iadd X dL_law_303 ?_
  refine g_sld X hX hbl hS (v := y2) (j := i + 2) (by omega) (by omega) ey2.symm dL_law_304 ?_
  refine g_aload_n X dL_law_305 rfl hl 1 rfl ?_
  refine g_iload X dL_law_306 hl 0 rfl ?_
  refine g_iconst X dL_law_308 ?_
  refine g_iadd X dL_law_309 ?_
  refine g_sld X hX hbl hS (v := y3) (j := i + 3) (by omega) (by omega) ey3.symm dL_law_310 ?_
  refine g_aload_n X dL_law_311 rfl hl 1 rfl ?_
  refine g_iload X dL_law_312 hl 0 rfl ?_
  refine g_iconst X dL_law_314 ?_
  refine g_iadd X dL_law_315 ?_
  refine g_sld X hX hbl hS (v := y4) (j := i + 4) (by omega) (by omega) ey4.symm dL_law_316 ?_
  refine g_aload_n X dL_law_317 rfl hl 1 rfl ?_
  refine g_iload X dL_law_318 hl 0 rfl ?_
  refine g_iconst X dL_law_320 ?_
  refine g_iadd X dL_law_321 ?_
  refine g_sld X hX hbl hS (v := y5) (j := i + 5) (by omega) (by omega) ey5.symm dL_law_322 ?_
  refine g_aload_n X dL_law_323 rfl hl 4 rfl ?_
  have hkN := hk.N
  refine g_wrun X hk hS (As := [.ref (ad 6 0), .int (iI y1), .int (iI y2), .int (iI y3), .int (iI y4), .int (iI y5), .ref ob]) (rest := []) (w_setPhases l E hst ad S ob og y1 y2 y3 y4 y5 H hPR.pp hI hy1 hy2 hy3 hy4 hy5 hPR.oo hPR.aa hPR.nn) 7 (lw_SW q348 q349 q45 q350) (by decide +kernel) ⟨⟨Nat.le_of_ble_eq_true rfl, Nat.le_of_ble_eq_true rfl⟩, by show cc_ + 5 ≤ 1200384; omega, by show sl_ + 32 ≤ 5488810; omega⟩ rfl rfl hl.1 (Nat.le_of_ble_eq_true rfl) dL_law_324 (fun q h => by have := hPR.oWn hkN q h; omega) (hPR.oWn hkN) (fun z H locs hw hk hz_ ho_ hS => ?_)
  obtain ⟨hz0, ad1, S1, og1, hPR, ead, h0, h1⟩ := hPR.wr hw ho_
  subst hz0
  refine g_istore (lv' := [(5, .int (iI (erP S y1 y2 y3 y4 y5))), (4, .int (iI ((i : Nat) : Int))), (0, .ref b), (1, .ref (ad 6 0)), (2, .ref (am 0)), (3, .ref ob)]) X dL_law_327 hl (by decide) rfl (fun ls hl => ?_)
  refine g_aload_n X dL_law_329 rfl hl 4 rfl ?_
  refine g_aload_n X dL_law_330 rfl hl 2 rfl ?_
  refine g_iload X dL_law_331 hl 1 rfl ?_
  refine g_iconst X dL_law_333 ?_
  refine g_iadd X dL_law_334 ?_
  refine g_sld X hX hbl hS (v := y1) (j := i + 1) (by omega) (by omega) ey1.symm dL_law_335 ?_
  refine g_aload_n X dL_law_336 rfl hl 2 rfl ?_
  refine g_iload X dL_law_337 hl 1 rfl ?_
  refine g_iconst X dL_law_339 ?_
  refine g_iadd X dL_law_340 ?_
  refine g_sld X hX hbl hS (v := y2) (j := i + 2) (by omega) (by omega) ey2.symm dL_law_341 ?_
  refine g_aload_n X dL_law_342 rfl hl 2 rfl ?_
  refine g_iload X dL_law_343 hl 1 rfl ?_
  refine g_iconst X dL_law_345 ?_
  refine g_iadd X dL_law_346 ?_
  refine g_sld X hX hbl hS (v := y3) (j := i + 3) (by omega) (by omega) ey3.symm dL_law_347 ?_
  refine g_aload_n X dL_law_348 rfl hl 2 rfl ?_
  refine g_iload X dL_law_349 hl 1 rfl ?_
  refine g_iconst X dL_law_351 ?_
  refine g_iadd X dL_law_352 ?_
  refine g_sld X hX hbl hS (v := y4) (j := i + 4) (by omega) (by omega) ey4.symm dL_law_353 ?_
  refine g_aload_n X dL_law_354 rfl hl 2 rfl ?_
  refine g_iload X dL_law_355 hl 1 rfl ?_
  refine g_iconst X dL_law_357 ?_
  refine g_iadd X dL_law_358 ?_
  refine g_sld X hX hbl hS (v := y5) (j := i + 5) (by omega) (by omega) ey5.symm dL_law_359 ?_
  refine g_calli (g_runV X hk (As := [.int (iI y1), .int (iI y2), .int (iI y3), .int (iI y4), .int (iI y5)]) (rest := []) rfl (MP.O hPR.mm) (m_setPhases l E am S M H hPR.mm hI hMR hMI y1 y2 y3 y4 y5 hy1 hy2 hy3 hy4 hy5) 5 (lw_V q719 q720 q721 q48 q722) (by decide +kernel) ⟨⟨Nat.le_of_ble_eq_true rfl, Nat.le_of_ble_eq_true rfl⟩, by show cc_ + 5 + 0 ≤ 1200384; omega, by show sl_ + 32 + 0 ≤ 5488810; omega⟩ rfl rfl hl.1 (Nat.le_of_ble_eq_true rfl) dL_law_360) hk hS (fun q h => by have := MP.N hPR.mm q h; omega) (MP.N hPR.mm) (fun z2 H locs hP_ hk hz_ ho2_ hS => ?_)
  obtain ⟨M1, hM1, t1, a0, b1⟩ := hP_
  have a1 := fun e0 : erP S y1 y2 y3 y4 y5 = 0 => (a0 e0).1
  have hPR2 := hPR.md hM1 ho2_
  have ht1 : 0 ≤ M1 0 0 ∧ M1 0 0 ≤ 3 := by rw [t1]; omega
  have hRL2 : RL S1 M1 := by by_cases e0 : erP S y1 y2 y3 y4 y5 = 0; (rw [(h0 e0).1]; exact L_setPhases hRL e0 (a0 e0).2.1 (a0 e0).2.2); (rw [h1 e0]; exact hRL.Q (b1 e0))
  refine g_istore (lv' := [(6, .int (iI z2)), (5, .int (iI (erP S y1 y2 y3 y4 y5))), (4, .int (iI ((i : Nat) : Int))), (0, .ref b), (1, .ref (ad 6 0)), (2, .ref (am 0)), (3, .ref ob)]) X dL_law_363 hl (by decide) rfl (fun ls hl => ?_)
  refine g_aload_n X dL_law_365 rfl hl 5 rfl ?_
  refine g_pV X hk (As := []) (rest := []) rfl (MP.O hPR2.mm) (m_thrown l E am M1 H hPR2.mm) 0 (lw_V q683 q684 q685 q48 q686) (by decide +kernel) ⟨⟨Nat.le_of_ble_eq_true rfl, Nat.le_of_ble_eq_true rfl⟩, by show cc_ + 5 ≤ 1200384; omega, by show sl_ + 32 ≤ 5488810; omega⟩ rfl rfl hl.1 (Nat.le_of_ble_eq_true rfl) dL_law_366 ?_
  refine g_iload X dL_law_369 hl 1 rfl ?_
  refine g_icmp_eq X dL_law_371 (tgt := 376) (by decide) (by omega) (fun c371 => ?_) (fun c371 => ?_)
  · refine g_iload X dL_law_376 hl 1 rfl ?_
    refine g_if_ne X dL_law_378 (tgt := 393) (by decide) (by omega) (fun c378 => ?_) (fun c378 => ?_)
    · refine g_goto X dL_law_393 (tgt := 1506) (by decide) ?_
      refine W.widen (k := cc_ + 100) (n := sl_ + 5000) (by omega) (by omega) ?_
      exact K ad1 S1 M1 og1 H locs ls hk hS hPR2 hRL2 ead (lv_sub hl [2, 3, 4, 5, 6] rfl)
    · refine g_aload_n X dL_law_381 rfl hl 6 rfl ?_
      refine g_iconst X dL_law_382 ?_
      have e0 : erP S y1 y2 y3 y4 y5 = 0 := by omega
      refine g_lald X hk hPR2.oo (j := 0) rfl (by decide) dL_law_383 ?_
      refine g_iload X dL_law_384 hl 0 rfl ?_
      refine lv_i2l X.1.1 X.1.2.1 dL_law_386 (v := lI z2) rfl ?_
      refine g_lcmpE X (by rw [(h0 e0).2, a1 e0]) dL_law_387 ?_
      refine g_if_eq X dL_law_388 (tgt := 393) (by decide) (by omega) (fun c388 => ?_) (fun c388 => ?_)
      · refine g_goto X dL_law_393 (tgt := 1506) (by decide) ?_
        refine W.widen (k := cc_ + 100) (n := sl_ + 5000) (by omega) (by omega) ?_
        exact K ad1 S1 M1 og1 H locs ls hk hS hPR2 hRL2 ead (lv_sub hl [2, 3, 4, 5, 6] rfl)
      · exact absurd rfl c388
  · exact absurd (t1) c371
set_option maxHeartbeats 4000000 in
theorem lc_3 {P_ : Program} {e_ : Env} {s : State} {M_ : MethodId} {bl : List Frame} {mt_ : Method} {c_ : Code} (l : Launch) (hst : l.stackTraces = false) {E : EP} {b L : Nat} {xs : Nat → Int32} (X : gX P_ s M_ mt_ c_ cL_law 7 ([.ref b] : List Value).toArray RX0 (some .boolean)) (hX : va_X b L xs s s.heap) (hbl : b < s.heap.size) (hL : L ≤ 384) (hE : eN E = s.heap.size) {Q : State → Prop} (ad : Nat → Nat → Nat) (S : GS) (am : Nat → Nat) (M : MS) (ob : Nat) (og : Nat → Int64) (H : Heap) (locs : List Loc) (ls : Array Slot) (cc_ sl_ i : Nat) (hR : cc_ + 100 ≤ 1200384 ∧ sl_ + 5000 ≤ 5488810) (hi : i + 5 < L) (hk : kk E s H) (hS : va_S (nA s.heap) s.heap H locs) (hPR : PR E ad S am M ob og H) (hRL : RL S M) (hl : lv_has ls 7 [(4, .int (iI ((i : Nat) : Int))), (0, .ref b), (1, .ref (ad 6 0)), (2, .ref (am 0)), (3, .ref ob)])
    (K : ∀ (ad1 : Nat → Nat → Nat) (S1 : GS) (M1 : MS) (og1 : Nat → Int64) (H1 : Heap) (locs1 : List Loc) (ls1 : Array Slot), kk E s H1 → va_S (nA s.heap) s.heap H1 locs1 → PR E ad1 S1 am M1 ob og1 H1 → RL S1 M1 → ad1 6 0 = ad 6 0 → lv_has ls1 7 [(4, .int (iI ((i : Nat) : Int))), (0, .ref b), (1, .ref (ad 6 0)), (2, .ref (am 0)), (3, .ref ob)] → W P_ l e_ room_1 s M_ ([.ref b] : List Value).toArray bl mt_ c_ H1 locs1 (cc_ + 100) (sl_ + 5000) Q (F0 M_ 1506 ls1 [])) : W P_ l e_ room_1 s M_ ([.ref b] : List Value).toArray bl mt_ c_ H locs cc_ sl_ Q (F0 M_ 396 ls []) := by
  obtain ⟨y1, ey1⟩ : ∃ y : Int, y = (xs (i + 1)).toInt := ⟨_, rfl⟩
  have hy1 : -2147483648 ≤ y1 ∧ y1 ≤ 2147483647 := by rw [ey1]; exact iI_rng _
  obtain ⟨y2, ey2⟩ : ∃ y : Int, y = (xs (i + 2)).toInt := ⟨_, rfl⟩
  have hy2 : -2147483648 ≤ y2 ∧ y2 ≤ 2147483647 := by rw [ey2]; exact iI_rng _
  obtain ⟨y3, ey3⟩ : ∃ y : Int, y = (xs (i + 3)).toInt := ⟨_, rfl⟩
  have hy3 : -2147483648 ≤ y3 ∧ y3 ≤ 2147483647 := by rw [ey3]; exact iI_rng _
  obtain ⟨hI, hMR, hMD, hMC, hMI, hid⟩ := id hRL
  have her : 0 ≤ erF S y1 y2 y3 ∧ erF S y1 y2 y3 ≤ 3 := by unfold erF; (repeat' split) <;> omega
  refine g_aload_n X dL_law_396 rfl hl 2 rfl ?_
  refine g_aload_n X dL_law_397 rfl hl 1 rfl ?_
  refine g_iload X dL_law_398 hl 0 rfl ?_
  refine g_iconst X dL_law_400 ?_
  refine g_iadd X dL_law_401 ?_
  refine g_sld X hX hbl hS (v := y1) (j := i + 1) (by omega) (by omega) ey1.symm dL_law_402 ?_
  refine g_aload_n X dL_law_403 rfl hl 1 rfl ?_
  refine g_iload X dL_law_404 hl 0 rfl ?_
  refine g_iconst X dL_law_406 ?_
  refine g_iadd X dL_law_407 ?_
  refine g_sld X hX hbl hS (v := y2) (j := i + 2) (by omega) (by omega) ey2.symm dL_law_408 ?_
  refine g_aload_n X dL_law_409 rfl hl 1 rfl ?_
  refine g_iload X dL_law_410 hl 0 rfl ?_
  refine g_iconst X dL_law_412 ?_
  refine g_iadd X dL_law_413 ?_
  refine g_sld X hX hbl hS (v := y3) (j := i + 3) (by omega) (by omega) ey3.symm dL_law_414 ?_
  refine g_aload_n X dL_law_415 rfl hl 4 rfl ?_
  have hkN := hk.N
  refine g_wrun X hk hS (As := [.ref (ad 6 0), .int (iI y1), .int (iI y2), .int (iI y3), .ref ob]) (rest := []) (w_setFlow l E hst ad S ob og y1 y2 y3 H hPR.pp hI hy1 hy2 hy3 hPR.oo hPR.aa hPR.nn) 5 (lw_SW q360 q361 q45 q362) (by decide +kernel) ⟨⟨Nat.le_of_ble_eq_true rfl, Nat.le_of_ble_eq_true rfl⟩, by show cc_ + 5 ≤ 1200384; omega, by show sl_ + 30 ≤ 5488810; omega⟩ rfl rfl hl.1 (Nat.le_of_ble_eq_true rfl) dL_law_416 (fun q h => by have := hPR.oWn hkN q h; omega) (hPR.oWn hkN) (fun z H locs hw hk hz_ ho_ hS => ?_)
  obtain ⟨hz0, ad1, S1, og1, hPR, ead, h0, h1⟩ := hPR.wr hw ho_
  subst hz0
  refine g_istore (lv' := [(5, .int (iI (erF S y1 y2 y3))), (4, .int (iI ((i : Nat) : Int))), (0, .ref b), (1, .ref (ad 6 0)), (2, .ref (am 0)), (3, .ref ob)]) X dL_law_419 hl (by decide) rfl (fun ls hl => ?_)
  refine g_aload_n X dL_law_421 rfl hl 4 rfl ?_
  refine g_aload_n X dL_law_422 rfl hl 2 rfl ?_
  refine g_iload X dL_law_423 hl 1 rfl ?_
  refine g_iconst X dL_law_425 ?_
  refine g_iadd X dL_law_426 ?_
  refine g_sld X hX hbl hS (v := y1) (j := i + 1) (by omega) (by omega) ey1.symm dL_law_427 ?_
  refine g_aload_n X dL_law_428 rfl hl 2 rfl ?_
  refine g_iload X dL_law_429 hl 1 rfl ?_
  refine g_iconst X dL_law_431 ?_
  refine g_iadd X dL_law_432 ?_
  refine g_sld X hX hbl hS (v := y2) (j := i + 2) (by omega) (by omega) ey2.symm dL_law_433 ?_
  refine g_aload_n X dL_law_434 rfl hl 2 rfl ?_
  refine g_iload X dL_law_435 hl 1 rfl ?_
  refine g_iconst X dL_law_437 ?_
  refine g_iadd X dL_law_438 ?_
  refine g_sld X hX hbl hS (v := y3) (j := i + 3) (by omega) (by omega) ey3.symm dL_law_439 ?_
  refine g_calli (g_runV X hk (As := [.int (iI y1), .int (iI y2), .int (iI y3)]) (rest := []) rfl (MP.O hPR.mm) (m_setFlow l E am S M H hPR.mm hI hMR hMI y1 y2 y3 hy1 hy2 hy3) 3 (lw_V q731 q732 q733 q48 q734) (by decide +kernel) ⟨⟨Nat.le_of_ble_eq_true rfl, Nat.le_of_ble_eq_true rfl⟩, by show cc_ + 5 + 0 ≤ 1200384; omega, by show sl_ + 30 + 0 ≤ 5488810; omega⟩ rfl rfl hl.1 (Nat.le_of_ble_eq_true rfl) dL_law_440) hk hS (fun q h => by have := MP.N hPR.mm q h; omega) (MP.N hPR.mm) (fun z2 H locs hP_ hk hz_ ho2_ hS => ?_)
  obtain ⟨M1, hM1, t1, a0, b1⟩ := hP_
  have a1 := fun e0 : erF S y1 y2 y3 = 0 => (a0 e0).1
  have hPR2 := hPR.md hM1 ho2_
  have ht1 : 0 ≤ M1 0 0 ∧ M1 0 0 ≤ 3 := by rw [t1]; omega
  have hRL2 : RL S1 M1 := by by_cases e0 : erF S y1 y2 y3 = 0; (rw [(h0 e0).1]; exact L_setFlow hRL e0 (a0 e0).2.1 (a0 e0).2.2); (rw [h1 e0]; exact hRL.Q (b1 e0))
  refine g_istore (lv' := [(6, .int (iI z2)), (5, .int (iI (erF S y1 y2 y3))), (4, .int (iI ((i : Nat) : Int))), (0, .ref b), (1, .ref (ad 6 0)), (2, .ref (am 0)), (3, .ref ob)]) X dL_law_443 hl (by decide) rfl (fun ls hl => ?_)
  refine g_aload_n X dL_law_445 rfl hl 5 rfl ?_
  refine g_pV X hk (As := []) (rest := []) rfl (MP.O hPR2.mm) (m_thrown l E am M1 H hPR2.mm) 0 (lw_V q683 q684 q685 q48 q686) (by decide +kernel) ⟨⟨Nat.le_of_ble_eq_true rfl, Nat.le_of_ble_eq_true rfl⟩, by show cc_ + 5 ≤ 1200384; omega, by show sl_ + 30 ≤ 5488810; omega⟩ rfl rfl hl.1 (Nat.le_of_ble_eq_true rfl) dL_law_446 ?_
  refine g_iload X dL_law_449 hl 1 rfl ?_
  refine g_icmp_eq X dL_law_451 (tgt := 456) (by decide) (by omega) (fun c451 => ?_) (fun c451 => ?_)
  · refine g_iload X dL_law_456 hl 1 rfl ?_
    refine g_if_ne X dL_law_458 (tgt := 473) (by decide) (by omega) (fun c458 => ?_) (fun c458 => ?_)
    · refine g_goto X dL_law_473 (tgt := 1506) (by decide) ?_
      refine W.widen (k := cc_ + 100) (n := sl_ + 5000) (by omega) (by omega) ?_
      exact K ad1 S1 M1 og1 H locs ls hk hS hPR2 hRL2 ead (lv_sub hl [2, 3, 4, 5, 6] rfl)
    · refine g_aload_n X dL_law_461 rfl hl 6 rfl ?_
      refine g_iconst X dL_law_462 ?_
      have e0 : erF S y1 y2 y3 = 0 := by omega
      refine g_lald X hk hPR2.oo (j := 0) rfl (by decide) dL_law_463 ?_
      refine g_iload X dL_law_464 hl 0 rfl ?_
      refine lv_i2l X.1.1 X.1.2.1 dL_law_466 (v := lI z2) rfl ?_
      refine g_lcmpE X (by rw [(h0 e0).2, a1 e0]) dL_law_467 ?_
      refine g_if_eq X dL_law_468 (tgt := 473) (by decide) (by omega) (fun c468 => ?_) (fun c468 => ?_)
      · refine g_goto X dL_law_473 (tgt := 1506) (by decide) ?_
        refine W.widen (k := cc_ + 100) (n := sl_ + 5000) (by omega) (by omega) ?_
        exact K ad1 S1 M1 og1 H locs ls hk hS hPR2 hRL2 ead (lv_sub hl [2, 3, 4, 5, 6] rfl)
      · exact absurd rfl c468
  · exact absurd (t1) c451
set_option maxHeartbeats 4000000 in
theorem lc_4 {P_ : Program} {e_ : Env} {s : State} {M_ : MethodId} {bl : List Frame} {mt_ : Method} {c_ : Code} (l : Launch) (hst : l.stackTraces = false) {E : EP} {b L : Nat} {xs : Nat → Int32} (X : gX P_ s M_ mt_ c_ cL_law 7 ([.ref b] : List Value).toArray RX0 (some .boolean)) (hX : va_X b L xs s s.heap) (hbl : b < s.heap.size) (hL : L ≤ 384) (hE : eN E = s.heap.size) {Q : State → Prop} (ad : Nat → Nat → Nat) (S : GS) (am : Nat → Nat) (M : MS) (ob : Nat) (og : Nat → Int64) (H : Heap) (locs : List Loc) (ls : Array Slot) (cc_ sl_ i : Nat) (hR : cc_ + 100 ≤ 1200384 ∧ sl_ + 5000 ≤ 5488810) (hi : i + 5 < L) (hk : kk E s H) (hS : va_S (nA s.heap) s.heap H locs) (hPR : PR E ad S am M ob og H) (hRL : RL S M) (hl : lv_has ls 7 [(4, .int (iI ((i : Nat) : Int))), (0, .ref b), (1, .ref (ad 6 0)), (2, .ref (am 0)), (3, .ref ob)])
    (K : ∀ (ad1 : Nat → Nat → Nat) (S1 : GS) (M1 : MS) (og1 : Nat → Int64) (H1 : Heap) (locs1 : List Loc) (ls1 : Array Slot), kk E s H1 → va_S (nA s.heap) s.heap H1 locs1 → PR E ad1 S1 am M1 ob og1 H1 → RL S1 M1 → ad1 6 0 = ad 6 0 → lv_has ls1 7 [(4, .int (iI ((i : Nat) : Int))), (0, .ref b), (1, .ref (ad 6 0)), (2, .ref (am 0)), (3, .ref ob)] → W P_ l e_ room_1 s M_ ([.ref b] : List Value).toArray bl mt_ c_ H1 locs1 (cc_ + 100) (sl_ + 5000) Q (F0 M_ 1506 ls1 [])) : W P_ l e_ room_1 s M_ ([.ref b] : List Value).toArray bl mt_ c_ H locs cc_ sl_ Q (F0 M_ 476 ls []) := by
  obtain ⟨y1, ey1⟩ : ∃ y : Int, y = (xs (i + 1)).toInt := ⟨_, rfl⟩
  have hy1 : -2147483648 ≤ y1 ∧ y1 ≤ 2147483647 := by rw [ey1]; exact iI_rng _
  obtain ⟨y2, ey2⟩ : ∃ y : Int, y = (xs (i + 2)).toInt := ⟨_, rfl⟩
  have hy2 : -2147483648 ≤ y2 ∧ y2 ≤ 2147483647 := by rw [ey2]; exact iI_rng _
  obtain ⟨y3, ey3⟩ : ∃ y : Int, y = (xs (i + 3)).toInt := ⟨_, rfl⟩
  have hy3 : -2147483648 ≤ y3 ∧ y3 ≤ 2147483647 := by rw [ey3]; exact iI_rng _
  obtain ⟨hI, hMR, hMD, hMC, hMI, hid⟩ := id hRL
  have her : 0 ≤ erL S y1 y2 y3 ∧ erL S y1 y2 y3 ≤ 3 := by unfold erL; (repeat' split) <;> omega
  refine g_aload_n X dL_law_476 rfl hl 2 rfl ?_
  refine g_aload_n X dL_law_477 rfl hl 1 rfl ?_
  refine g_iload X dL_law_478 hl 0 rfl ?_
  refine g_iconst X dL_law_480 ?_
  refine g_iadd X dL_law_481 ?_
  refine g_sld X hX hbl hS (v := y1) (j := i + 1) (by omega) (by omega) ey1.symm dL_law_482 ?_
  refine g_aload_n X dL_law_483 rfl hl 1 rfl ?_
  refine g_iload X dL_law_484 hl 0 rfl ?_
  refine g_iconst X dL_law_486 ?_
  refine g_iadd X dL_law_487 ?_
  refine g_sld X hX hbl hS (v := y2) (j := i + 2) (by omega) (by omega) ey2.symm dL_law_488 ?_
  refine g_aload_n X dL_law_489 rfl hl 1 rfl ?_
  refine g_iload X dL_law_490 hl 0 rfl ?_
  refine g_iconst X dL_law_492 ?_
  refine g_iadd X dL_law_493 ?_
  refine g_sld X hX hbl hS (v := y3) (j := i + 3) (by omega) (by omega) ey3.symm dL_law_494 ?_
  have hkN := hk.N
  refine g_wrun X hk hS (As := [.ref (ad 6 0), .int (iI y1), .int (iI y2), .int (iI y3)]) (rest := []) (w_setLink l E hst ad S y1 y2 y3 H hPR.pp hI hy1 hy2 hy3 ) 4 (lw_SW q367 q368 q45 q369) (by decide +kernel) ⟨⟨Nat.le_of_ble_eq_true rfl, Nat.le_of_ble_eq_true rfl⟩, by show cc_ + 3 ≤ 1200384; omega, by show sl_ + 18 ≤ 5488810; omega⟩ rfl rfl hl.1 (Nat.le_of_ble_eq_true rfl) dL_law_495 (fun q h => by have := hPR.gWn hkN q h; omega) (hPR.gWn hkN) (fun z H locs hw hk hz_ ho_ hS => ?_)
  obtain ⟨hz0, ad1, S1, hPR, ead, h0, h1⟩ := hPR.wn hw ho_
  subst hz0
  refine g_istore (lv' := [(5, .int (iI (erL S y1 y2 y3))), (4, .int (iI ((i : Nat) : Int))), (0, .ref b), (1, .ref (ad 6 0)), (2, .ref (am 0)), (3, .ref ob)]) X dL_law_498 hl (by decide) rfl (fun ls hl => ?_)
  refine g_aload_n X dL_law_500 rfl hl 4 rfl ?_
  refine g_aload_n X dL_law_501 rfl hl 2 rfl ?_
  refine g_iload X dL_law_502 hl 1 rfl ?_
  refine g_iconst X dL_law_504 ?_
  refine g_iadd X dL_law_505 ?_
  refine g_sld X hX hbl hS (v := y1) (j := i + 1) (by omega) (by omega) ey1.symm dL_law_506 ?_
  refine g_aload_n X dL_law_507 rfl hl 2 rfl ?_
  refine g_iload X dL_law_508 hl 1 rfl ?_
  refine g_iconst X dL_law_510 ?_
  refine g_iadd X dL_law_511 ?_
  refine g_sld X hX hbl hS (v := y2) (j := i + 2) (by omega) (by omega) ey2.symm dL_law_512 ?_
  refine g_aload_n X dL_law_513 rfl hl 2 rfl ?_
  refine g_iload X dL_law_514 hl 1 rfl ?_
  refine g_iconst X dL_law_516 ?_
  refine g_iadd X dL_law_517 ?_
  refine g_sld X hX hbl hS (v := y3) (j := i + 3) (by omega) (by omega) ey3.symm dL_law_518 ?_
  refine g_callv (g_runV X hk (As := [.int (iI y1), .int (iI y2), .int (iI y3)]) (rest := []) rfl (MP.O hPR.mm) (m_setLink l E am S M H hPR.mm hI hMR hMI y1 y2 y3 hy1 hy2 hy3) 3 (lw_V q735 q736 q737 q48 q738) (by decide +kernel) ⟨⟨Nat.le_of_ble_eq_true rfl, Nat.le_of_ble_eq_true rfl⟩, by show cc_ + 3 + 0 ≤ 1200384; omega, by show sl_ + 18 + 0 ≤ 5488810; omega⟩ rfl rfl hl.1 (Nat.le_of_ble_eq_true rfl) dL_law_519) hk hS (fun q h => by have := MP.N hPR.mm q h; omega) (MP.N hPR.mm) (fun H locs hP_ hk hz_ ho2_ hS => ?_)
  obtain ⟨M1, hM1, t1, a0, b1⟩ := hP_
  have hPR2 := hPR.md hM1 ho2_
  have ht1 : 0 ≤ M1 0 0 ∧ M1 0 0 ≤ 3 := by rw [t1]; omega
  have hRL2 : RL S1 M1 := by by_cases e0 : erL S y1 y2 y3 = 0; (rw [(h0 e0)]; exact L_setLink hRL e0 (a0 e0).1 (a0 e0).2); (rw [h1 e0]; exact hRL.Q (b1 e0))
  refine g_aload_n X dL_law_522 rfl hl 4 rfl ?_
  refine g_pV X hk (As := []) (rest := []) rfl (MP.O hPR2.mm) (m_thrown l E am M1 H hPR2.mm) 0 (lw_V q683 q684 q685 q48 q686) (by decide +kernel) ⟨⟨Nat.le_of_ble_eq_true rfl, Nat.le_of_ble_eq_true rfl⟩, by show cc_ + 3 ≤ 1200384; omega, by show sl_ + 18 ≤ 5488810; omega⟩ rfl rfl hl.1 (Nat.le_of_ble_eq_true rfl) dL_law_523 ?_
  refine g_iload X dL_law_526 hl 0 rfl ?_
  refine g_icmp_eq X dL_law_528 (tgt := 533) (by decide) (by omega) (fun c528 => ?_) (fun c528 => ?_)
  · refine g_goto X dL_law_533 (tgt := 1506) (by decide) ?_
    refine W.widen (k := cc_ + 100) (n := sl_ + 5000) (by omega) (by omega) ?_
    exact K ad1 S1 M1 og H locs ls hk hS hPR2 hRL2 ead (lv_sub hl [1, 2, 3, 4, 5] rfl)
  · exact absurd (t1) c528
set_option maxHeartbeats 4000000 in
theorem lc_5 {P_ : Program} {e_ : Env} {s : State} {M_ : MethodId} {bl : List Frame} {mt_ : Method} {c_ : Code} (l : Launch) (hst : l.stackTraces = false) {E : EP} {b L : Nat} {xs : Nat → Int32} (X : gX P_ s M_ mt_ c_ cL_law 7 ([.ref b] : List Value).toArray RX0 (some .boolean)) (hX : va_X b L xs s s.heap) (hbl : b < s.heap.size) (hL : L ≤ 384) (hE : eN E = s.heap.size) {Q : State → Prop} (ad : Nat → Nat → Nat) (S : GS) (am : Nat → Nat) (M : MS) (ob : Nat) (og : Nat → Int64) (H : Heap) (locs : List Loc) (ls : Array Slot) (cc_ sl_ i : Nat) (hR : cc_ + 100 ≤ 1200384 ∧ sl_ + 5000 ≤ 5488810) (hi : i + 5 < L) (hk : kk E s H) (hS : va_S (nA s.heap) s.heap H locs) (hPR : PR E ad S am M ob og H) (hRL : RL S M) (hl : lv_has ls 7 [(4, .int (iI ((i : Nat) : Int))), (0, .ref b), (1, .ref (ad 6 0)), (2, .ref (am 0)), (3, .ref ob)])
    (K : ∀ (ad1 : Nat → Nat → Nat) (S1 : GS) (M1 : MS) (og1 : Nat → Int64) (H1 : Heap) (locs1 : List Loc) (ls1 : Array Slot), kk E s H1 → va_S (nA s.heap) s.heap H1 locs1 → PR E ad1 S1 am M1 ob og1 H1 → RL S1 M1 → ad1 6 0 = ad 6 0 → lv_has ls1 7 [(4, .int (iI ((i : Nat) : Int))), (0, .ref b), (1, .ref (ad 6 0)), (2, .ref (am 0)), (3, .ref ob)] → W P_ l e_ room_1 s M_ ([.ref b] : List Value).toArray bl mt_ c_ H1 locs1 (cc_ + 100) (sl_ + 5000) Q (F0 M_ 1506 ls1 [])) : W P_ l e_ room_1 s M_ ([.ref b] : List Value).toArray bl mt_ c_ H locs cc_ sl_ Q (F0 M_ 536 ls []) := by
  obtain ⟨y1, ey1⟩ : ∃ y : Int, y = (xs (i + 1)).toInt := ⟨_, rfl⟩
  have hy1 : -2147483648 ≤ y1 ∧ y1 ≤ 2147483647 := by rw [ey1]; exact iI_rng _
  obtain ⟨y2, ey2⟩ : ∃ y : Int, y = (xs (i + 2)).toInt := ⟨_, rfl⟩
  have hy2 : -2147483648 ≤ y2 ∧ y2 ≤ 2147483647 := by rw [ey2]; exact iI_rng _
  obtain ⟨hI, hMR, hMD, hMC, hMI, hid⟩ := id hRL
  have her : 0 ≤ erO S y1 y2 ∧ erO S y1 y2 ≤ 3 := by unfold erO; (repeat' split) <;> omega
  refine g_aload_n X dL_law_536 rfl hl 2 rfl ?_
  refine g_aload_n X dL_law_537 rfl hl 1 rfl ?_
  refine g_iload X dL_law_538 hl 0 rfl ?_
  refine g_iconst X dL_law_540 ?_
  refine g_iadd X dL_law_541 ?_
  refine g_sld X hX hbl hS (v := y1) (j := i + 1) (by omega) (by omega) ey1.symm dL_law_542 ?_
  refine g_aload_n X dL_law_543 rfl hl 1 rfl ?_
  refine g_iload X dL_law_544 hl 0 rfl ?_
  refine g_iconst X dL_law_546 ?_
  refine g_iadd X dL_law_547 ?_
  refine g_sld X hX hbl hS (v := y2) (j := i + 2) (by omega) (by omega) ey2.symm dL_law_548 ?_
  refine g_aload_n X dL_law_549 rfl hl 4 rfl ?_
  have hkN := hk.N
  refine g_wrun X hk hS (As := [.ref (ad 6 0), .int (iI y1), .int (iI y2), .ref ob]) (rest := []) (w_setOffset l E hst ad S ob og y1 y2 H hPR.pp hI hy1 hy2 hPR.oo hPR.aa hPR.nn) 4 (lw_SW q378 q379 q45 q380) (by decide +kernel) ⟨⟨Nat.le_of_ble_eq_true rfl, Nat.le_of_ble_eq_true rfl⟩, by show cc_ + 3 ≤ 1200384; omega, by show sl_ + 18 ≤ 5488810; omega⟩ rfl rfl hl.1 (Nat.le_of_ble_eq_true rfl) dL_law_550 (fun q h => by have := hPR.oWn hkN q h; omega) (hPR.oWn hkN) (fun z H locs hw hk hz_ ho_ hS => ?_)
  obtain ⟨hz0, ad1, S1, og1, hPR, ead, h0, h1⟩ := hPR.wr hw ho_
  subst hz0
  refine g_istore (lv' := [(5, .int (iI (erO S y1 y2))), (4, .int (iI ((i : Nat) : Int))), (0, .ref b), (1, .ref (ad 6 0)), (2, .ref (am 0)), (3, .ref ob)]) X dL_law_553 hl (by decide) rfl (fun ls hl => ?_)
  refine g_aload_n X dL_law_555 rfl hl 4 rfl ?_
  refine g_aload_n X dL_law_556 rfl hl 2 rfl ?_
  refine g_iload X dL_law_557 hl 1 rfl ?_
  refine g_iconst X dL_law_559 ?_
  refine g_iadd X dL_law_560 ?_
  refine g_sld X hX hbl hS (v := y1) (j := i + 1) (by omega) (by omega) ey1.symm dL_law_561 ?_
  refine g_aload_n X dL_law_562 rfl hl 2 rfl ?_
  refine g_iload X dL_law_563 hl 1 rfl ?_
  refine g_iconst X dL_law_565 ?_
  refine g_iadd X dL_law_566 ?_
  refine g_sld X hX hbl hS (v := y2) (j := i + 2) (by omega) (by omega) ey2.symm dL_law_567 ?_
  refine g_calli (g_runV X hk (As := [.int (iI y1), .int (iI y2)]) (rest := []) rfl (MP.O hPR.mm) (m_setOffset l E am S M H hPR.mm hI hMR hMI y1 y2 hy1 hy2) 2 (lw_V q743 q744 q745 q48 q746) (by decide +kernel) ⟨⟨Nat.le_of_ble_eq_true rfl, Nat.le_of_ble_eq_true rfl⟩, by show cc_ + 3 + 0 ≤ 1200384; omega, by show sl_ + 18 + 0 ≤ 5488810; omega⟩ rfl rfl hl.1 (Nat.le_of_ble_eq_true rfl) dL_law_568) hk hS (fun q h => by have := MP.N hPR.mm q h; omega) (MP.N hPR.mm) (fun z2 H locs hP_ hk hz_ ho2_ hS => ?_)
  obtain ⟨M1, hM1, t1, a0, b1⟩ := hP_
  have a1 := fun e0 : erO S y1 y2 = 0 => (a0 e0).1
  have hPR2 := hPR.md hM1 ho2_
  have ht1 : 0 ≤ M1 0 0 ∧ M1 0 0 ≤ 3 := by rw [t1]; omega
  have hRL2 : RL S1 M1 := by by_cases e0 : erO S y1 y2 = 0; (rw [(h0 e0).1]; exact L_setOffset hRL e0 (a0 e0).2.1 (a0 e0).2.2); (rw [h1 e0]; exact hRL.Q (b1 e0))
  refine g_istore (lv' := [(6, .int (iI z2)), (5, .int (iI (erO S y1 y2))), (4, .int (iI ((i : Nat) : Int))), (0, .ref b), (1, .ref (ad 6 0)), (2, .ref (am 0)), (3, .ref ob)]) X dL_law_571 hl (by decide) rfl (fun ls hl => ?_)
  refine g_aload_n X dL_law_573 rfl hl 5 rfl ?_
  refine g_pV X hk (As := []) (rest := []) rfl (MP.O hPR2.mm) (m_thrown l E am M1 H hPR2.mm) 0 (lw_V q683 q684 q685 q48 q686) (by decide +kernel) ⟨⟨Nat.le_of_ble_eq_true rfl, Nat.le_of_ble_eq_true rfl⟩, by show cc_ + 3 ≤ 1200384; omega, by show sl_ + 18 ≤ 5488810; omega⟩ rfl rfl hl.1 (Nat.le_of_ble_eq_true rfl) dL_law_574 ?_
  refine g_iload X dL_law_577 hl 1 rfl ?_
  refine g_icmp_eq X dL_law_579 (tgt := 584) (by decide) (by omega) (fun c579 => ?_) (fun c579 => ?_)
  · refine g_iload X dL_law_584 hl 1 rfl ?_
    refine g_if_ne X dL_law_586 (tgt := 601) (by decide) (by omega) (fun c586 => ?_) (fun c586 => ?_)
    · refine g_goto X dL_law_601 (tgt := 1506) (by decide) ?_
      refine W.widen (k := cc_ + 100) (n := sl_ + 5000) (by omega) (by omega) ?_
      exact K ad1 S1 M1 og1 H locs ls hk hS hPR2 hRL2 ead (lv_sub hl [2, 3, 4, 5, 6] rfl)
    · refine g_aload_n X dL_law_589 rfl hl 6 rfl ?_
      refine g_iconst X dL_law_590 ?_
      have e0 : erO S y1 y2 = 0 := by omega
      refine g_lald X hk hPR2.oo (j := 0) rfl (by decide) dL_law_591 ?_
      refine g_iload X dL_law_592 hl 0 rfl ?_
      refine lv_i2l X.1.1 X.1.2.1 dL_law_594 (v := lI z2) rfl ?_
      refine g_lcmpE X (by rw [(h0 e0).2, a1 e0]) dL_law_595 ?_
      refine g_if_eq X dL_law_596 (tgt := 601) (by decide) (by omega) (fun c596 => ?_) (fun c596 => ?_)
      · refine g_goto X dL_law_601 (tgt := 1506) (by decide) ?_
        refine W.widen (k := cc_ + 100) (n := sl_ + 5000) (by omega) (by omega) ?_
        exact K ad1 S1 M1 og1 H locs ls hk hS hPR2 hRL2 ead (lv_sub hl [2, 3, 4, 5, 6] rfl)
      · exact absurd rfl c596
  · exact absurd (t1) c579
set_option maxHeartbeats 4000000 in
theorem lc_6 {P_ : Program} {e_ : Env} {s : State} {M_ : MethodId} {bl : List Frame} {mt_ : Method} {c_ : Code} (l : Launch) (hst : l.stackTraces = false) {E : EP} {b L : Nat} {xs : Nat → Int32} (X : gX P_ s M_ mt_ c_ cL_law 7 ([.ref b] : List Value).toArray RX0 (some .boolean)) (hX : va_X b L xs s s.heap) (hbl : b < s.heap.size) (hL : L ≤ 384) (hE : eN E = s.heap.size) {Q : State → Prop} (ad : Nat → Nat → Nat) (S : GS) (am : Nat → Nat) (M : MS) (ob : Nat) (og : Nat → Int64) (H : Heap) (locs : List Loc) (ls : Array Slot) (cc_ sl_ i : Nat) (hR : cc_ + 100 ≤ 1200384 ∧ sl_ + 5000 ≤ 5488810) (hi : i + 5 < L) (hk : kk E s H) (hS : va_S (nA s.heap) s.heap H locs) (hPR : PR E ad S am M ob og H) (hRL : RL S M) (hl : lv_has ls 7 [(4, .int (iI ((i : Nat) : Int))), (0, .ref b), (1, .ref (ad 6 0)), (2, .ref (am 0)), (3, .ref ob)])
    (K : ∀ (ad1 : Nat → Nat → Nat) (S1 : GS) (M1 : MS) (og1 : Nat → Int64) (H1 : Heap) (locs1 : List Loc) (ls1 : Array Slot), kk E s H1 → va_S (nA s.heap) s.heap H1 locs1 → PR E ad1 S1 am M1 ob og1 H1 → RL S1 M1 → ad1 6 0 = ad 6 0 → lv_has ls1 7 [(4, .int (iI ((i : Nat) : Int))), (0, .ref b), (1, .ref (ad 6 0)), (2, .ref (am 0)), (3, .ref ob)] → W P_ l e_ room_1 s M_ ([.ref b] : List Value).toArray bl mt_ c_ H1 locs1 (cc_ + 100) (sl_ + 5000) Q (F0 M_ 1506 ls1 [])) : W P_ l e_ room_1 s M_ ([.ref b] : List Value).toArray bl mt_ c_ H locs cc_ sl_ Q (F0 M_ 604 ls []) := by
  obtain ⟨hI, hMR, hMD, hMC, hMI, hid⟩ := id hRL
  have her : 0 ≤ erI S ∧ erI S ≤ 1 := by unfold erI; (repeat' split) <;> omega
  refine g_aload_n X dL_law_604 rfl hl 2 rfl ?_
  refine g_aload_n X dL_law_605 rfl hl 4 rfl ?_
  have hkN := hk.N
  refine g_wrun X hk hS (As := [.ref (ad 6 0), .ref ob]) (rest := []) (w_improve l E hst ad S ob og  H hPR.pp hI  hPR.oo hPR.aa hPR.nn) 2 (lw_SW q385 q386 q45 q387) (by decide +kernel) ⟨⟨Nat.le_of_ble_eq_true rfl, Nat.le_of_ble_eq_true rfl⟩, by show cc_ + 23 ≤ 1200384; omega, by show sl_ + 970 ≤ 5488810; omega⟩ rfl rfl hl.1 (Nat.le_of_ble_eq_true rfl) dL_law_606 (fun q h => by have := hPR.oWn hkN q h; omega) (hPR.oWn hkN) (fun z H locs hw hk hz_ ho_ hS => ?_)
  obtain ⟨hz0, ad1, S1, og1, hPR, ead, h0, h1⟩ := hPR.wr hw ho_
  subst hz0
  refine g_istore (lv' := [(5, .int (iI (erI S))), (4, .int (iI ((i : Nat) : Int))), (0, .ref b), (1, .ref (ad 6 0)), (2, .ref (am 0)), (3, .ref ob)]) X dL_law_609 hl (by decide) rfl (fun ls hl => ?_)
  refine g_aload_n X dL_law_611 rfl hl 4 rfl ?_
  refine g_calli (g_runV X hk (As := []) (rest := []) rfl (MP.O hPR.mm) (m_improve l E am S M H hPR.mm hI hMR hMI  ) 0 (lw_V q747 q748 q749 q48 q750) (by decide +kernel) ⟨⟨Nat.le_of_ble_eq_true rfl, Nat.le_of_ble_eq_true rfl⟩, by show cc_ + 23 + 0 ≤ 1200384; omega, by show sl_ + 970 + 0 ≤ 5488810; omega⟩ rfl rfl hl.1 (Nat.le_of_ble_eq_true rfl) dL_law_612) hk hS (fun q h => by have := MP.N hPR.mm q h; omega) (MP.N hPR.mm) (fun z2 H locs hP_ hk hz_ ho2_ hS => ?_)
  obtain ⟨M1, hM1, t1, a0, b1⟩ := hP_
  have a1 := fun e0 : erI S = 0 => (a0 e0).1
  have hPR2 := hPR.md hM1 ho2_
  have ht1 : 0 ≤ M1 0 0 ∧ M1 0 0 ≤ 3 := by rw [t1]; omega
  have hRL2 : RL S1 M1 := by by_cases e0 : erI S = 0; (rw [(h0 e0).1]; exact L_improve hRL e0 (a0 e0).2.1 (a0 e0).2.2); (rw [h1 e0]; exact hRL.Q (b1 e0))
  refine g_istore (lv' := [(6, .int (iI z2)), (5, .int (iI (erI S))), (4, .int (iI ((i : Nat) : Int))), (0, .ref b), (1, .ref (ad 6 0)), (2, .ref (am 0)), (3, .ref ob)]) X dL_law_615 hl (by decide) rfl (fun ls hl => ?_)
  refine g_aload_n X dL_law_617 rfl hl 5 rfl ?_
  refine g_pV X hk (As := []) (rest := []) rfl (MP.O hPR2.mm) (m_thrown l E am M1 H hPR2.mm) 0 (lw_V q683 q684 q685 q48 q686) (by decide +kernel) ⟨⟨Nat.le_of_ble_eq_true rfl, Nat.le_of_ble_eq_true rfl⟩, by show cc_ + 23 ≤ 1200384; omega, by show sl_ + 970 ≤ 5488810; omega⟩ rfl rfl hl.1 (Nat.le_of_ble_eq_true rfl) dL_law_618 ?_
  refine g_iload X dL_law_621 hl 1 rfl ?_
  refine g_icmp_eq X dL_law_623 (tgt := 628) (by decide) (by omega) (fun c623 => ?_) (fun c623 => ?_)
  · refine g_iload X dL_law_628 hl 1 rfl ?_
    refine g_if_ne X dL_law_630 (tgt := 645) (by decide) (by omega) (fun c630 => ?_) (fun c630 => ?_)
    · refine g_goto X dL_law_645 (tgt := 1506) (by decide) ?_
      refine W.widen (k := cc_ + 100) (n := sl_ + 5000) (by omega) (by omega) ?_
      exact K ad1 S1 M1 og1 H locs ls hk hS hPR2 hRL2 ead (lv_sub hl [2, 3, 4, 5, 6] rfl)
    · refine g_aload_n X dL_law_633 rfl hl 6 rfl ?_
      refine g_iconst X dL_law_634 ?_
      have e0 : erI S = 0 := by omega
      refine g_lald X hk hPR2.oo (j := 0) rfl (by decide) dL_law_635 ?_
      refine g_iload X dL_law_636 hl 0 rfl ?_
      refine lv_i2l X.1.1 X.1.2.1 dL_law_638 (v := lI z2) rfl ?_
      refine g_lcmpE X (by rw [(h0 e0).2, a1 e0]) dL_law_639 ?_
      refine g_if_eq X dL_law_640 (tgt := 645) (by decide) (by omega) (fun c640 => ?_) (fun c640 => ?_)
      · refine g_goto X dL_law_645 (tgt := 1506) (by decide) ?_
        refine W.widen (k := cc_ + 100) (n := sl_ + 5000) (by omega) (by omega) ?_
        exact K ad1 S1 M1 og1 H locs ls hk hS hPR2 hRL2 ead (lv_sub hl [2, 3, 4, 5, 6] rfl)
      · exact absurd rfl c640
  · exact absurd (t1) c623
set_option maxHeartbeats 4000000 in
theorem lc_7 {P_ : Program} {e_ : Env} {s : State} {M_ : MethodId} {bl : List Frame} {mt_ : Method} {c_ : Code} (l : Launch) (hst : l.stackTraces = false) {E : EP} {b L : Nat} {xs : Nat → Int32} (X : gX P_ s M_ mt_ c_ cL_law 7 ([.ref b] : List Value).toArray RX0 (some .boolean)) (hX : va_X b L xs s s.heap) (hbl : b < s.heap.size) (hL : L ≤ 384) (hE : eN E = s.heap.size) {Q : State → Prop} (ad : Nat → Nat → Nat) (S : GS) (am : Nat → Nat) (M : MS) (ob : Nat) (og : Nat → Int64) (H : Heap) (locs : List Loc) (ls : Array Slot) (cc_ sl_ i : Nat) (hR : cc_ + 100 ≤ 1200384 ∧ sl_ + 5000 ≤ 5488810) (hi : i + 5 < L) (hk : kk E s H) (hS : va_S (nA s.heap) s.heap H locs) (hPR : PR E ad S am M ob og H) (hRL : RL S M) (hl : lv_has ls 7 [(4, .int (iI ((i : Nat) : Int))), (0, .ref b), (1, .ref (ad 6 0)), (2, .ref (am 0)), (3, .ref ob)])
    (K : ∀ (ad1 : Nat → Nat → Nat) (S1 : GS) (M1 : MS) (og1 : Nat → Int64) (H1 : Heap) (locs1 : List Loc) (ls1 : Array Slot), kk E s H1 → va_S (nA s.heap) s.heap H1 locs1 → PR E ad1 S1 am M1 ob og1 H1 → RL S1 M1 → ad1 6 0 = ad 6 0 → lv_has ls1 7 [(4, .int (iI ((i : Nat) : Int))), (0, .ref b), (1, .ref (ad 6 0)), (2, .ref (am 0)), (3, .ref ob)] → W P_ l e_ room_1 s M_ ([.ref b] : List Value).toArray bl mt_ c_ H1 locs1 (cc_ + 100) (sl_ + 5000) Q (F0 M_ 1506 ls1 [])) : W P_ l e_ room_1 s M_ ([.ref b] : List Value).toArray bl mt_ c_ H locs cc_ sl_ Q (F0 M_ 648 ls []) := by
  obtain ⟨hI, hMR, hMD, hMC, hMI, hid⟩ := id hRL
  refine g_aload_n X dL_law_648 rfl hl 2 rfl ?_
  refine g_pV X hk (As := []) (rest := []) rfl (GP.X hPR.pp) (p_junctions l E ad S H hPR.pp) 0 (lw_V q161 q162 q163 q46 q164) (by decide +kernel) ⟨⟨Nat.le_of_ble_eq_true rfl, Nat.le_of_ble_eq_true rfl⟩, by show cc_ ≤ 1200384; omega, by show sl_ ≤ 5488810; omega⟩ rfl rfl hl.1 (Nat.le_of_ble_eq_true rfl) dL_law_649 ?_
  refine g_aload_n X dL_law_652 rfl hl 3 rfl ?_
  refine g_calli (g_runV X hk (As := []) (rest := [.int (iI (gN S : Int))]) rfl (MP.O hPR.mm) (m_junctions l E am S M H hPR.mm hI hMR hMI) 0 (lw_V q803 q804 q805 q48 q806) (by decide +kernel) ⟨⟨Nat.le_of_ble_eq_true rfl, Nat.le_of_ble_eq_true rfl⟩, by show cc_ + 0 + 0 ≤ 1200384; omega, by show sl_ + 0 + 0 ≤ 5488810; omega⟩ rfl rfl hl.1 (Nat.le_of_ble_eq_true rfl) dL_law_653) hk hS (fun q h => by have := MP.N hPR.mm q h; omega) (MP.N hPR.mm) (fun z2 H locs hP_ hk hz_ ho2_ hS => ?_)
  obtain ⟨a1, M1, hM1, q1⟩ := hP_
  have hPR2 := hPR.md hM1 ho2_
  have hRL2 : RL S M1 := hRL.Q q1
  subst a1
  refine g_icmp_same X dL_law_656 (tgt := 1506) (by decide) ?_
  refine W.widen (k := cc_ + 100) (n := sl_ + 5000) (by omega) (by omega) ?_
  exact K ad S M1 og H locs ls hk hS hPR2 hRL2 rfl (lv_sub hl [0, 1, 2, 3, 4] rfl)
set_option maxHeartbeats 4000000 in
theorem lc_8 {P_ : Program} {e_ : Env} {s : State} {M_ : MethodId} {bl : List Frame} {mt_ : Method} {c_ : Code} (l : Launch) (hst : l.stackTraces = false) {E : EP} {b L : Nat} {xs : Nat → Int32} (X : gX P_ s M_ mt_ c_ cL_law 7 ([.ref b] : List Value).toArray RX0 (some .boolean)) (hX : va_X b L xs s s.heap) (hbl : b < s.heap.size) (hL : L ≤ 384) (hE : eN E = s.heap.size) {Q : State → Prop} (ad : Nat → Nat → Nat) (S : GS) (am : Nat → Nat) (M : MS) (ob : Nat) (og : Nat → Int64) (H : Heap) (locs : List Loc) (ls : Array Slot) (cc_ sl_ i : Nat) (hR : cc_ + 100 ≤ 1200384 ∧ sl_ + 5000 ≤ 5488810) (hi : i + 5 < L) (hk : kk E s H) (hS : va_S (nA s.heap) s.heap H locs) (hPR : PR E ad S am M ob og H) (hRL : RL S M) (hl : lv_has ls 7 [(4, .int (iI ((i : Nat) : Int))), (0, .ref b), (1, .ref (ad 6 0)), (2, .ref (am 0)), (3, .ref ob)])
    (K : ∀ (ad1 : Nat → Nat → Nat) (S1 : GS) (M1 : MS) (og1 : Nat → Int64) (H1 : Heap) (locs1 : List Loc) (ls1 : Array Slot), kk E s H1 → va_S (nA s.heap) s.heap H1 locs1 → PR E ad1 S1 am M1 ob og1 H1 → RL S1 M1 → ad1 6 0 = ad 6 0 → lv_has ls1 7 [(4, .int (iI ((i : Nat) : Int))), (0, .ref b), (1, .ref (ad 6 0)), (2, .ref (am 0)), (3, .ref ob)] → W P_ l e_ room_1 s M_ ([.ref b] : List Value).toArray bl mt_ c_ H1 locs1 (cc_ + 100) (sl_ + 5000) Q (F0 M_ 1506 ls1 [])) : W P_ l e_ room_1 s M_ ([.ref b] : List Value).toArray bl mt_ c_ H locs cc_ sl_ Q (F0 M_ 661 ls []) := by
  obtain ⟨y1, ey1⟩ : ∃ y : Int, y = (xs (i + 1)).toInt := ⟨_, rfl⟩
  have hy1 : -2147483648 ≤ y1 ∧ y1 ≤ 2147483647 := by rw [ey1]; exact iI_rng _
  obtain ⟨hI, hMR, hMD, hMC, hMI, hid⟩ := id hRL
  have her : 0 ≤ erJ S y1 ∧ erJ S y1 ≤ 1 := by unfold erJ; (repeat' split) <;> omega
  refine g_aload_n X dL_law_661 rfl hl 2 rfl ?_
  refine g_aload_n X dL_law_662 rfl hl 1 rfl ?_
  refine g_iload X dL_law_663 hl 0 rfl ?_
  refine g_iconst X dL_law_665 ?_
  refine g_iadd X dL_law_666 ?_
  refine g_sld X hX hbl hS (v := y1) (j := i + 1) (by omega) (by omega) ey1.symm dL_law_667 ?_
  refine g_aload_n X dL_law_668 rfl hl 4 rfl ?_
  have hkN := hk.N
  refine g_wrun X hk hS (As := [.ref (ad 6 0), .int (iI y1), .ref ob]) (rest := []) (w_hasPlan l E hst ad S ob og y1 H hPR.pp hI hy1 hPR.oo hPR.aa hPR.nn) 3 (lw_SW q451 q452 q45 q453) (by decide +kernel) ⟨⟨Nat.le_of_ble_eq_true rfl, Nat.le_of_ble_eq_true rfl⟩, by show cc_ + 1 ≤ 1200384; omega, by show sl_ + 6 ≤ 5488810; omega⟩ rfl rfl hl.1 (Nat.le_of_ble_eq_true rfl) dL_law_669 (fun q h => by have := hPR.oWn hkN q h; omega) (hPR.oWn hkN) (fun z H locs hw hk hz_ ho_ hS => ?_)
  obtain ⟨hz0, ad1, S1, og1, hPR, ead, h0, h1⟩ := hPR.wr hw ho_
  subst hz0
  refine g_istore (lv' := [(5, .int (iI (erJ S y1))), (4, .int (iI ((i : Nat) : Int))), (0, .ref b), (1, .ref (ad 6 0)), (2, .ref (am 0)), (3, .ref ob)]) X dL_law_672 hl (by decide) rfl (fun ls hl => ?_)
  refine g_aload_n X dL_law_674 rfl hl 4 rfl ?_
  refine g_aload_n X dL_law_675 rfl hl 2 rfl ?_
  refine g_iload X dL_law_676 hl 1 rfl ?_
  refine g_iconst X dL_law_678 ?_
  refine g_iadd X dL_law_679 ?_
  refine g_sld X hX hbl hS (v := y1) (j := i + 1) (by omega) (by omega) ey1.symm dL_law_680 ?_
  refine g_calli (g_runV X hk (As := [.int (iI y1)]) (rest := []) rfl (MP.O hPR.mm) (m_hasPlan l E am S M H hPR.mm hI hMR hMI y1 hy1) 1 (lw_V q807 q808 q809 q48 q810) (by decide +kernel) ⟨⟨Nat.le_of_ble_eq_true rfl, Nat.le_of_ble_eq_true rfl⟩, by show cc_ + 1 + 0 ≤ 1200384; omega, by show sl_ + 6 + 0 ≤ 5488810; omega⟩ rfl rfl hl.1 (Nat.le_of_ble_eq_true rfl) dL_law_681) hk hS (fun q h => by have := MP.N hPR.mm q h; omega) (MP.N hPR.mm) (fun z2 H locs hP_ hk hz_ ho2_ hS => ?_)
  obtain ⟨M1, hM1, t1, a1, q1⟩ := hP_
  have hPR2 := hPR.md hM1 ho2_
  have ht1 : 0 ≤ M1 0 0 ∧ M1 0 0 ≤ 3 := by rw [t1]; omega
  have hRL2 : RL S1 M1 := by by_cases e0 : erJ S y1 = 0; (rw [(h0 e0).1]; exact hRL.Q q1); (rw [h1 e0]; exact hRL.Q q1)
  refine g_istore (lv' := [(6, .int (iI z2)), (5, .int (iI (erJ S y1))), (4, .int (iI ((i : Nat) : Int))), (0, .ref b), (1, .ref (ad 6 0)), (2, .ref (am 0)), (3, .ref ob)]) X dL_law_684 hl (by decide) rfl (fun ls hl => ?_)
  refine g_aload_n X dL_law_686 rfl hl 5 rfl ?_
  refine g_pV X hk (As := []) (rest := []) rfl (MP.O hPR2.mm) (m_thrown l E am M1 H hPR2.mm) 0 (lw_V q683 q684 q685 q48 q686) (by decide +kernel) ⟨⟨Nat.le_of_ble_eq_true rfl, Nat.le_of_ble_eq_true rfl⟩, by show cc_ + 1 ≤ 1200384; omega, by show sl_ + 6 ≤ 5488810; omega⟩ rfl rfl hl.1 (Nat.le_of_ble_eq_true rfl) dL_law_687 ?_
  refine g_iload X dL_law_690 hl 1 rfl ?_
  refine g_icmp_eq X dL_law_692 (tgt := 697) (by decide) (by omega) (fun c692 => ?_) (fun c692 => ?_)
  · refine g_iload X dL_law_697 hl 1 rfl ?_
    refine g_if_ne X dL_law_699 (tgt := 721) (by decide) (by omega) (fun c699 => ?_) (fun c699 => ?_)
    · refine g_goto X dL_law_721 (tgt := 1506) (by decide) ?_
      refine W.widen (k := cc_ + 100) (n := sl_ + 5000) (by omega) (by omega) ?_
      exact K ad1 S1 M1 og1 H locs ls hk hS hPR2 hRL2 ead (lv_sub hl [2, 3, 4, 5, 6] rfl)
    · refine g_aload_n X dL_law_702 rfl hl 6 rfl ?_
      refine g_iconst X dL_law_703 ?_
      have e0 : erJ S y1 = 0 := by omega
      have hz2 := a1 e0
      have hbz := bZ_le (decide (0 ≤ lft S y1.toNat))
      refine g_lald X hk hPR2.oo (j := 0) rfl (by decide) dL_law_704 ?_
      refine g_iload X dL_law_705 hl 0 rfl ?_
      refine g_if_eq X dL_law_707 (tgt := 714) (by decide) (by omega) (fun c707 => ?_) (fun c707 => ?_)
      · refine lv_lconst X.1.1 X.1.2.1 dL_law_714 (v := 0) rfl ?_
        refine g_lcmpE X (by rw [(h0 e0).2, ← a1 e0, show z2 = 0 by omega]; rfl) dL_law_715 ?_
        refine g_if_eq X dL_law_716 (tgt := 721) (by decide) (by omega) (fun c716 => ?_) (fun c716 => ?_)
        · refine g_goto X dL_law_721 (tgt := 1506) (by decide) ?_
          refine W.widen (k := cc_ + 100) (n := sl_ + 5000) (by omega) (by omega) ?_
          exact K ad1 S1 M1 og1 H locs ls hk hS hPR2 hRL2 ead (lv_sub hl [2, 3, 4, 5, 6] rfl)
        · exact absurd rfl c716
      · refine lv_lconst X.1.1 X.1.2.1 dL_law_710 (v := 1) rfl ?_
        refine g_goto X dL_law_711 (tgt := 715) (by decide) ?_
        refine g_lcmpE X (by rw [(h0 e0).2, ← a1 e0, show z2 = 1 by omega]; rfl) dL_law_715 ?_
        refine g_if_eq X dL_law_716 (tgt := 721) (by decide) (by omega) (fun c716 => ?_) (fun c716 => ?_)
        · refine g_goto X dL_law_721 (tgt := 1506) (by decide) ?_
          refine W.widen (k := cc_ + 100) (n := sl_ + 5000) (by omega) (by omega) ?_
          exact K ad1 S1 M1 og1 H locs ls hk hS hPR2 hRL2 ead (lv_sub hl [2, 3, 4, 5, 6] rfl)
        · exact absurd rfl c716
  · exact absurd (t1) c692
set_option maxHeartbeats 4000000 in
theorem lc_9 {P_ : Program} {e_ : Env} {s : State} {M_ : MethodId} {bl : List Frame} {mt_ : Method} {c_ : Code} (l : Launch) (hst : l.stackTraces = false) {E : EP} {b L : Nat} {xs : Nat → Int32} (X : gX P_ s M_ mt_ c_ cL_law 7 ([.ref b] : List Value).toArray RX0 (some .boolean)) (hX : va_X b L xs s s.heap) (hbl : b < s.heap.size) (hL : L ≤ 384) (hE : eN E = s.heap.size) {Q : State → Prop} (ad : Nat → Nat → Nat) (S : GS) (am : Nat → Nat) (M : MS) (ob : Nat) (og : Nat → Int64) (H : Heap) (locs : List Loc) (ls : Array Slot) (cc_ sl_ i : Nat) (hR : cc_ + 100 ≤ 1200384 ∧ sl_ + 5000 ≤ 5488810) (hi : i + 5 < L) (hk : kk E s H) (hS : va_S (nA s.heap) s.heap H locs) (hPR : PR E ad S am M ob og H) (hRL : RL S M) (hl : lv_has ls 7 [(4, .int (iI ((i : Nat) : Int))), (0, .ref b), (1, .ref (ad 6 0)), (2, .ref (am 0)), (3, .ref ob)])
    (K : ∀ (ad1 : Nat → Nat → Nat) (S1 : GS) (M1 : MS) (og1 : Nat → Int64) (H1 : Heap) (locs1 : List Loc) (ls1 : Array Slot), kk E s H1 → va_S (nA s.heap) s.heap H1 locs1 → PR E ad1 S1 am M1 ob og1 H1 → RL S1 M1 → ad1 6 0 = ad 6 0 → lv_has ls1 7 [(4, .int (iI ((i : Nat) : Int))), (0, .ref b), (1, .ref (ad 6 0)), (2, .ref (am 0)), (3, .ref ob)] → W P_ l e_ room_1 s M_ ([.ref b] : List Value).toArray bl mt_ c_ H1 locs1 (cc_ + 100) (sl_ + 5000) Q (F0 M_ 1506 ls1 [])) : W P_ l e_ room_1 s M_ ([.ref b] : List Value).toArray bl mt_ c_ H locs cc_ sl_ Q (F0 M_ 724 ls []) := by
  obtain ⟨y1, ey1⟩ : ∃ y : Int, y = (xs (i + 1)).toInt := ⟨_, rfl⟩
  have hy1 : -2147483648 ≤ y1 ∧ y1 ≤ 2147483647 := by rw [ey1]; exact iI_rng _
  obtain ⟨y2, ey2⟩ : ∃ y : Int, y = (xs (i + 2)).toInt := ⟨_, rfl⟩
  have hy2 : -2147483648 ≤ y2 ∧ y2 ≤ 2147483647 := by rw [ey2]; exact iI_rng _
  obtain ⟨hI, hMR, hMD, hMC, hMI, hid⟩ := id hRL
  have her : 0 ≤ erG S y1 y2 ∧ erG S y1 y2 ≤ 2 := by unfold erG; (repeat' split) <;> omega
  refine g_aload_n X dL_law_724 rfl hl 2 rfl ?_
  refine g_aload_n X dL_law_725 rfl hl 1 rfl ?_
  refine g_iload X dL_law_726 hl 0 rfl ?_
  refine g_iconst X dL_law_728 ?_
  refine g_iadd X dL_law_729 ?_
  refine g_sld X hX hbl hS (v := y1) (j := i + 1) (by omega) (by omega) ey1.symm dL_law_730 ?_
  refine g_aload_n X dL_law_731 rfl hl 1 rfl ?_
  refine g_iload X dL_law_732 hl 0 rfl ?_
  refine g_iconst X dL_law_734 ?_
  refine g_iadd X dL_law_735 ?_
  refine g_sld X hX hbl hS (v := y2) (j := i + 2) (by omega) (by omega) ey2.symm dL_law_736 ?_
  refine g_aload_n X dL_law_737 rfl hl 4 rfl ?_
  have hkN := hk.N
  refine g_wrun X hk hS (As := [.ref (ad 6 0), .int (iI y1), .int (iI y2), .ref ob]) (rest := []) (w_green l E hst ad S ob og y1 y2 H hPR.pp hI hy1 hy2 hPR.oo hPR.aa hPR.nn) 4 (lw_SW q458 q459 q45 q460) (by decide +kernel) ⟨⟨Nat.le_of_ble_eq_true rfl, Nat.le_of_ble_eq_true rfl⟩, by show cc_ + 5 ≤ 1200384; omega, by show sl_ + 40 ≤ 5488810; omega⟩ rfl rfl hl.1 (Nat.le_of_ble_eq_true rfl) dL_law_738 (fun q h => by have := hPR.oWn hkN q h; omega) (hPR.oWn hkN) (fun z H locs hw hk hz_ ho_ hS => ?_)
  obtain ⟨hz0, ad1, S1, og1, hPR, ead, h0, h1⟩ := hPR.wr hw ho_
  subst hz0
  refine g_istore (lv' := [(5, .int (iI (erG S y1 y2))), (4, .int (iI ((i : Nat) : Int))), (0, .ref b), (1, .ref (ad 6 0)), (2, .ref (am 0)), (3, .ref ob)]) X dL_law_741 hl (by decide) rfl (fun ls hl => ?_)
  refine g_aload_n X dL_law_743 rfl hl 4 rfl ?_
  refine g_aload_n X dL_law_744 rfl hl 2 rfl ?_
  refine g_iload X dL_law_745 hl 1 rfl ?_
  refine g_iconst X dL_law_747 ?_
  refine g_iadd X dL_law_748 ?_
  refine g_sld X hX hbl hS (v := y1) (j := i + 1) (by omega) (by omega) ey1.symm dL_law_749 ?_
  refine g_aload_n X dL_law_750 rfl hl 2 rfl ?_
  refine g_iload X dL_law_751 hl 1 rfl ?_
  refine g_iconst X dL_law_753 ?_
  refine g_iadd X dL_law_754 ?_
  refine g_sld X hX hbl hS (v := y2) (j := i + 2) (by omega) (by omega) ey2.symm dL_law_755 ?_
  refine g_calli (g_runV X hk (As := [.int (iI y1), .int (iI y2)]) (rest := []) rfl (MP.O hPR.mm) (m_green l E am S M H hPR.mm hI hMR hMI y1 y2 hy1 hy2) 2 (lw_V q815 q816 q817 q48 q818) (by decide +kernel) ⟨⟨Nat.le_of_ble_eq_true rfl, Nat.le_of_ble_eq_true rfl⟩, by show cc_ + 5 + 0 ≤ 1200384; omega, by show sl_ + 40 + 0 ≤ 5488810; omega⟩ rfl rfl hl.1 (Nat.le_of_ble_eq_true rfl) dL_law_756) hk hS (fun q h => by have := MP.N hPR.mm q h; omega) (MP.N hPR.mm) (fun z2 H locs hP_ hk hz_ ho2_ hS => ?_)
  obtain ⟨M1, hM1, t1, a1, q1⟩ := hP_
  have hPR2 := hPR.md hM1 ho2_
  have ht1 : 0 ≤ M1 0 0 ∧ M1 0 0 ≤ 3 := by rw [t1]; omega
  have hRL2 : RL S1 M1 := by by_cases e0 : erG S y1 y2 = 0; (rw [(h0 e0).1]; exact hRL.Q q1); (rw [h1 e0]; exact hRL.Q q1)
  refine g_istore (lv' := [(6, .int (iI z2)), (5, .int (iI (erG S y1 y2))), (4, .int (iI ((i : Nat) : Int))), (0, .ref b), (1, .ref (ad 6 0)), (2, .ref (am 0)), (3, .ref ob)]) X dL_law_759 hl (by decide) rfl (fun ls hl => ?_)
  refine g_aload_n X dL_law_761 rfl hl 5 rfl ?_
  refine g_pV X hk (As := []) (rest := []) rfl (MP.O hPR2.mm) (m_thrown l E am M1 H hPR2.mm) 0 (lw_V q683 q684 q685 q48 q686) (by decide +kernel) ⟨⟨Nat.le_of_ble_eq_true rfl, Nat.le_of_ble_eq_true rfl⟩, by show cc_ + 5 ≤ 1200384; omega, by show sl_ + 40 ≤ 5488810; omega⟩ rfl rfl hl.1 (Nat.le_of_ble_eq_true rfl) dL_law_762 ?_
  refine g_iload X dL_law_765 hl 1 rfl ?_
  refine g_icmp_eq X dL_law_767 (tgt := 772) (by decide) (by omega) (fun c767 => ?_) (fun c767 => ?_)
  · refine g_iload X dL_law_772 hl 1 rfl ?_
    refine g_if_ne X dL_law_774 (tgt := 789) (by decide) (by omega) (fun c774 => ?_) (fun c774 => ?_)
    · refine g_goto X dL_law_789 (tgt := 1506) (by decide) ?_
      refine W.widen (k := cc_ + 100) (n := sl_ + 5000) (by omega) (by omega) ?_
      exact K ad1 S1 M1 og1 H locs ls hk hS hPR2 hRL2 ead (lv_sub hl [2, 3, 4, 5, 6] rfl)
    · refine g_aload_n X dL_law_777 rfl hl 6 rfl ?_
      refine g_iconst X dL_law_778 ?_
      have e0 : erG S y1 y2 = 0 := by omega
      refine g_lald X hk hPR2.oo (j := 0) rfl (by decide) dL_law_779 ?_
      refine g_iload X dL_law_780 hl 0 rfl ?_
      refine lv_i2l X.1.1 X.1.2.1 dL_law_782 (v := lI z2) rfl ?_
      refine g_lcmpE X (by rw [(h0 e0).2, a1 e0]) dL_law_783 ?_
      refine g_if_eq X dL_law_784 (tgt := 789) (by decide) (by omega) (fun c784 => ?_) (fun c784 => ?_)
      · refine g_goto X dL_law_789 (tgt := 1506) (by decide) ?_
        refine W.widen (k := cc_ + 100) (n := sl_ + 5000) (by omega) (by omega) ?_
        exact K ad1 S1 M1 og1 H locs ls hk hS hPR2 hRL2 ead (lv_sub hl [2, 3, 4, 5, 6] rfl)
      · exact absurd rfl c784
  · exact absurd (t1) c767
set_option maxHeartbeats 4000000 in
theorem lc_10 {P_ : Program} {e_ : Env} {s : State} {M_ : MethodId} {bl : List Frame} {mt_ : Method} {c_ : Code} (l : Launch) (hst : l.stackTraces = false) {E : EP} {b L : Nat} {xs : Nat → Int32} (X : gX P_ s M_ mt_ c_ cL_law 7 ([.ref b] : List Value).toArray RX0 (some .boolean)) (hX : va_X b L xs s s.heap) (hbl : b < s.heap.size) (hL : L ≤ 384) (hE : eN E = s.heap.size) {Q : State → Prop} (ad : Nat → Nat → Nat) (S : GS) (am : Nat → Nat) (M : MS) (ob : Nat) (og : Nat → Int64) (H : Heap) (locs : List Loc) (ls : Array Slot) (cc_ sl_ i : Nat) (hR : cc_ + 100 ≤ 1200384 ∧ sl_ + 5000 ≤ 5488810) (hi : i + 5 < L) (hk : kk E s H) (hS : va_S (nA s.heap) s.heap H locs) (hPR : PR E ad S am M ob og H) (hRL : RL S M) (hl : lv_has ls 7 [(4, .int (iI ((i : Nat) : Int))), (0, .ref b), (1, .ref (ad 6 0)), (2, .ref (am 0)), (3, .ref ob)])
    (K : ∀ (ad1 : Nat → Nat → Nat) (S1 : GS) (M1 : MS) (og1 : Nat → Int64) (H1 : Heap) (locs1 : List Loc) (ls1 : Array Slot), kk E s H1 → va_S (nA s.heap) s.heap H1 locs1 → PR E ad1 S1 am M1 ob og1 H1 → RL S1 M1 → ad1 6 0 = ad 6 0 → lv_has ls1 7 [(4, .int (iI ((i : Nat) : Int))), (0, .ref b), (1, .ref (ad 6 0)), (2, .ref (am 0)), (3, .ref ob)] → W P_ l e_ room_1 s M_ ([.ref b] : List Value).toArray bl mt_ c_ H1 locs1 (cc_ + 100) (sl_ + 5000) Q (F0 M_ 1506 ls1 [])) : W P_ l e_ room_1 s M_ ([.ref b] : List Value).toArray bl mt_ c_ H locs cc_ sl_ Q (F0 M_ 792 ls []) := by
  obtain ⟨y1, ey1⟩ : ∃ y : Int, y = (xs (i + 1)).toInt := ⟨_, rfl⟩
  have hy1 : -2147483648 ≤ y1 ∧ y1 ≤ 2147483647 := by rw [ey1]; exact iI_rng _
  obtain ⟨y2, ey2⟩ : ∃ y : Int, y = (xs (i + 2)).toInt := ⟨_, rfl⟩
  have hy2 : -2147483648 ≤ y2 ∧ y2 ≤ 2147483647 := by rw [ey2]; exact iI_rng _
  obtain ⟨hI, hMR, hMD, hMC, hMI, hid⟩ := id hRL
  have her : 0 ≤ erK S y1 y2 ∧ erK S y1 y2 ≤ 1 := by unfold erK; (repeat' split) <;> omega
  refine g_aload_n X dL_law_792 rfl hl 2 rfl ?_
  refine g_aload_n X dL_law_793 rfl hl 1 rfl ?_
  refine g_iload X dL_law_794 hl 0 rfl ?_
  refine g_iconst X dL_law_796 ?_
  refine g_iadd X dL_law_797 ?_
  refine g_sld X hX hbl hS (v := y1) (j := i + 1) (by omega) (by omega) ey1.symm dL_law_798 ?_
  refine g_aload_n X dL_law_799 rfl hl 1 rfl ?_
  refine g_iload X dL_law_800 hl 0 rfl ?_
  refine g_iconst X dL_law_802 ?_
  refine g_iadd X dL_law_803 ?_
  refine g_sld X hX hbl hS (v := y2) (j := i + 2) (by omega) (by omega) ey2.symm dL_law_804 ?_
  refine g_aload_n X dL_law_805 rfl hl 4 rfl ?_
  have hkN := hk.N
  refine g_wrun X hk hS (As := [.ref (ad 6 0), .int (iI y1), .int (iI y2), .ref ob]) (rest := []) (w_clearing l E hst ad S ob og y1 y2 H hPR.pp hI hy1 hy2 hPR.oo hPR.aa hPR.nn) 4 (lw_SW q472 q473 q45 q474) (by decide +kernel) ⟨⟨Nat.le_of_ble_eq_true rfl, Nat.le_of_ble_eq_true rfl⟩, by show cc_ + 2 ≤ 1200384; omega, by show sl_ + 12 ≤ 5488810; omega⟩ rfl rfl hl.1 (Nat.le_of_ble_eq_true rfl) dL_law_806 (fun q h => by have := hPR.oWn hkN q h; omega) (hPR.oWn hkN) (fun z H locs hw hk hz_ ho_ hS => ?_)
  obtain ⟨hz0, ad1, S1, og1, hPR, ead, h0, h1⟩ := hPR.wr hw ho_
  subst hz0
  refine g_istore (lv' := [(5, .int (iI (erK S y1 y2))), (4, .int (iI ((i : Nat) : Int))), (0, .ref b), (1, .ref (ad 6 0)), (2, .ref (am 0)), (3, .ref ob)]) X dL_law_809 hl (by decide) rfl (fun ls hl => ?_)
  refine g_aload_n X dL_law_811 rfl hl 4 rfl ?_
  refine g_aload_n X dL_law_812 rfl hl 2 rfl ?_
  refine g_iload X dL_law_813 hl 1 rfl ?_
  refine g_iconst X dL_law_815 ?_
  refine g_iadd X dL_law_816 ?_
  refine g_sld X hX hbl hS (v := y1) (j := i + 1) (by omega) (by omega) ey1.symm dL_law_817 ?_
  refine g_aload_n X dL_law_818 rfl hl 2 rfl ?_
  refine g_iload X dL_law_819 hl 1 rfl ?_
  refine g_iconst X dL_law_821 ?_
  refine g_iadd X dL_law_822 ?_
  refine g_sld X hX hbl hS (v := y2) (j := i + 2) (by omega) (by omega) ey2.symm dL_law_823 ?_
  refine g_calli (g_runV X hk (As := [.int (iI y1), .int (iI y2)]) (rest := []) rfl (MP.O hPR.mm) (m_clearing l E am S M H hPR.mm hI hMR hMI y1 y2 hy1 hy2) 2 (lw_V q823 q824 q825 q48 q826) (by decide +kernel) ⟨⟨Nat.le_of_ble_eq_true rfl, Nat.le_of_ble_eq_true rfl⟩, by show cc_ + 2 + 0 ≤ 1200384; omega, by show sl_ + 12 + 0 ≤ 5488810; omega⟩ rfl rfl hl.1 (Nat.le_of_ble_eq_true rfl) dL_law_824) hk hS (fun q h => by have := MP.N hPR.mm q h; omega) (MP.N hPR.mm) (fun z2 H locs hP_ hk hz_ ho2_ hS => ?_)
  obtain ⟨M1, hM1, t1, a1, q1⟩ := hP_
  have hPR2 := hPR.md hM1 ho2_
  have ht1 : 0 ≤ M1 0 0 ∧ M1 0 0 ≤ 3 := by rw [t1]; omega
  have hRL2 : RL S1 M1 := by by_cases e0 : erK S y1 y2 = 0; (rw [(h0 e0).1]; exact hRL.Q q1); (rw [h1 e0]; exact hRL.Q q1)
  refine g_istore (lv' := [(6, .int (iI z2)), (5, .int (iI (erK S y1 y2))), (4, .int (iI ((i : Nat) : Int))), (0, .ref b), (1, .ref (ad 6 0)), (2, .ref (am 0)), (3, .ref ob)]) X dL_law_827 hl (by decide) rfl (fun ls hl => ?_)
  refine g_aload_n X dL_law_829 rfl hl 5 rfl ?_
  refine g_pV X hk (As := []) (rest := []) rfl (MP.O hPR2.mm) (m_thrown l E am M1 H hPR2.mm) 0 (lw_V q683 q684 q685 q48 q686) (by decide +kernel) ⟨⟨Nat.le_of_ble_eq_true rfl, Nat.le_of_ble_eq_true rfl⟩, by show cc_ + 2 ≤ 1200384; omega, by show sl_ + 12 ≤ 5488810; omega⟩ rfl rfl hl.1 (Nat.le_of_ble_eq_true rfl) dL_law_830 ?_
  refine g_iload X dL_law_833 hl 1 rfl ?_
  refine g_icmp_eq X dL_law_835 (tgt := 840) (by decide) (by omega) (fun c835 => ?_) (fun c835 => ?_)
  · refine g_iload X dL_law_840 hl 1 rfl ?_
    refine g_if_ne X dL_law_842 (tgt := 857) (by decide) (by omega) (fun c842 => ?_) (fun c842 => ?_)
    · refine g_goto X dL_law_857 (tgt := 1506) (by decide) ?_
      refine W.widen (k := cc_ + 100) (n := sl_ + 5000) (by omega) (by omega) ?_
      exact K ad1 S1 M1 og1 H locs ls hk hS hPR2 hRL2 ead (lv_sub hl [2, 3, 4, 5, 6] rfl)
    · refine g_aload_n X dL_law_845 rfl hl 6 rfl ?_
      refine g_iconst X dL_law_846 ?_
      have e0 : erK S y1 y2 = 0 := by omega
      refine g_lald X hk hPR2.oo (j := 0) rfl (by decide) dL_law_847 ?_
      refine g_iload X dL_law_848 hl 0 rfl ?_
      refine lv_i2l X.1.1 X.1.2.1 dL_law_850 (v := lI z2) rfl ?_
      refine g_lcmpE X (by rw [(h0 e0).2, a1 e0]) dL_law_851 ?_
      refine g_if_eq X dL_law_852 (tgt := 857) (by decide) (by omega) (fun c852 => ?_) (fun c852 => ?_)
      · refine g_goto X dL_law_857 (tgt := 1506) (by decide) ?_
        refine W.widen (k := cc_ + 100) (n := sl_ + 5000) (by omega) (by omega) ?_
        exact K ad1 S1 M1 og1 H locs ls hk hS hPR2 hRL2 ead (lv_sub hl [2, 3, 4, 5, 6] rfl)
      · exact absurd rfl c852
  · exact absurd (t1) c835
set_option maxHeartbeats 4000000 in
theorem lc_11 {P_ : Program} {e_ : Env} {s : State} {M_ : MethodId} {bl : List Frame} {mt_ : Method} {c_ : Code} (l : Launch) (hst : l.stackTraces = false) {E : EP} {b L : Nat} {xs : Nat → Int32} (X : gX P_ s M_ mt_ c_ cL_law 7 ([.ref b] : List Value).toArray RX0 (some .boolean)) (hX : va_X b L xs s s.heap) (hbl : b < s.heap.size) (hL : L ≤ 384) (hE : eN E = s.heap.size) {Q : State → Prop} (ad : Nat → Nat → Nat) (S : GS) (am : Nat → Nat) (M : MS) (ob : Nat) (og : Nat → Int64) (H : Heap) (locs : List Loc) (ls : Array Slot) (cc_ sl_ i : Nat) (hR : cc_ + 100 ≤ 1200384 ∧ sl_ + 5000 ≤ 5488810) (hi : i + 5 < L) (hk : kk E s H) (hS : va_S (nA s.heap) s.heap H locs) (hPR : PR E ad S am M ob og H) (hRL : RL S M) (hl : lv_has ls 7 [(4, .int (iI ((i : Nat) : Int))), (0, .ref b), (1, .ref (ad 6 0)), (2, .ref (am 0)), (3, .ref ob)])
    (K : ∀ (ad1 : Nat → Nat → Nat) (S1 : GS) (M1 : MS) (og1 : Nat → Int64) (H1 : Heap) (locs1 : List Loc) (ls1 : Array Slot), kk E s H1 → va_S (nA s.heap) s.heap H1 locs1 → PR E ad1 S1 am M1 ob og1 H1 → RL S1 M1 → ad1 6 0 = ad 6 0 → lv_has ls1 7 [(4, .int (iI ((i : Nat) : Int))), (0, .ref b), (1, .ref (ad 6 0)), (2, .ref (am 0)), (3, .ref ob)] → W P_ l e_ room_1 s M_ ([.ref b] : List Value).toArray bl mt_ c_ H1 locs1 (cc_ + 100) (sl_ + 5000) Q (F0 M_ 1506 ls1 [])) : W P_ l e_ room_1 s M_ ([.ref b] : List Value).toArray bl mt_ c_ H locs cc_ sl_ Q (F0 M_ 860 ls []) := by
  obtain ⟨y1, ey1⟩ : ∃ y : Int, y = (xs (i + 1)).toInt := ⟨_, rfl⟩
  have hy1 : -2147483648 ≤ y1 ∧ y1 ≤ 2147483647 := by rw [ey1]; exact iI_rng _
  obtain ⟨hI, hMR, hMD, hMC, hMI, hid⟩ := id hRL
  have her : 0 ≤ erJ S y1 ∧ erJ S y1 ≤ 1 := by unfold erJ; (repeat' split) <;> omega
  refine g_aload_n X dL_law_860 rfl hl 2 rfl ?_
  refine g_aload_n X dL_law_861 rfl hl 1 rfl ?_
  refine g_iload X dL_law_862 hl 0 rfl ?_
  refine g_iconst X dL_law_864 ?_
  refine g_iadd X dL_law_865 ?_
  refine g_sld X hX hbl hS (v := y1) (j := i + 1) (by omega) (by omega) ey1.symm dL_law_866 ?_
  refine g_aload_n X dL_law_867 rfl hl 4 rfl ?_
  have hkN := hk.N
  refine g_wrun X hk hS (As := [.ref (ad 6 0), .int (iI y1), .ref ob]) (rest := []) (w_offset l E hst ad S ob og y1 H hPR.pp hI hy1 hPR.oo hPR.aa hPR.nn) 3 (lw_SW q480 q481 q45 q482) (by decide +kernel) ⟨⟨Nat.le_of_ble_eq_true rfl, Nat.le_of_ble_eq_true rfl⟩, by show cc_ + 1 ≤ 1200384; omega, by show sl_ + 6 ≤ 5488810; omega⟩ rfl rfl hl.1 (Nat.le_of_ble_eq_true rfl) dL_law_868 (fun q h => by have := hPR.oWn hkN q h; omega) (hPR.oWn hkN) (fun z H locs hw hk hz_ ho_ hS => ?_)
  obtain ⟨hz0, ad1, S1, og1, hPR, ead, h0, h1⟩ := hPR.wr hw ho_
  subst hz0
  refine g_istore (lv' := [(5, .int (iI (erJ S y1))), (4, .int (iI ((i : Nat) : Int))), (0, .ref b), (1, .ref (ad 6 0)), (2, .ref (am 0)), (3, .ref ob)]) X dL_law_871 hl (by decide) rfl (fun ls hl => ?_)
  refine g_aload_n X dL_law_873 rfl hl 4 rfl ?_
  refine g_aload_n X dL_law_874 rfl hl 2 rfl ?_
  refine g_iload X dL_law_875 hl 1 rfl ?_
  refine g_iconst X dL_law_877 ?_
  refine g_iadd X dL_law_878 ?_
  refine g_sld X hX hbl hS (v := y1) (j := i + 1) (by omega) (by omega) ey1.symm dL_law_879 ?_
  refine g_calli (g_runV X hk (As := [.int (iI y1)]) (rest := []) rfl (MP.O hPR.mm) (m_offset l E am S M H hPR.mm hI hMR hMI y1 hy1) 1 (lw_V q827 q828 q829 q48 q830) (by decide +kernel) ⟨⟨Nat.le_of_ble_eq_true rfl, Nat.le_of_ble_eq_true rfl⟩, by show cc_ + 1 + 0 ≤ 1200384; omega, by show sl_ + 6 + 0 ≤ 5488810; omega⟩ rfl rfl hl.1 (Nat.le_of_ble_eq_true rfl) dL_law_880) hk hS (fun q h => by have := MP.N hPR.mm q h; omega) (MP.N hPR.mm) (fun z2 H locs hP_ hk hz_ ho2_ hS => ?_)
  obtain ⟨M1, hM1, t1, a1, q1⟩ := hP_
  have hPR2 := hPR.md hM1 ho2_
  have ht1 : 0 ≤ M1 0 0 ∧ M1 0 0 ≤ 3 := by rw [t1]; omega
  have hRL2 : RL S1 M1 := by by_cases e0 : erJ S y1 = 0; (rw [(h0 e0).1]; exact hRL.Q q1); (rw [h1 e0]; exact hRL.Q q1)
  refine g_istore (lv' := [(6, .int (iI z2)), (5, .int (iI (erJ S y1))), (4, .int (iI ((i : Nat) : Int))), (0, .ref b), (1, .ref (ad 6 0)), (2, .ref (am 0)), (3, .ref ob)]) X dL_law_883 hl (by decide) rfl (fun ls hl => ?_)
  refine g_aload_n X dL_law_885 rfl hl 5 rfl ?_
  refine g_pV X hk (As := []) (rest := []) rfl (MP.O hPR2.mm) (m_thrown l E am M1 H hPR2.mm) 0 (lw_V q683 q684 q685 q48 q686) (by decide +kernel) ⟨⟨Nat.le_of_ble_eq_true rfl, Nat.le_of_ble_eq_true rfl⟩, by show cc_ + 1 ≤ 1200384; omega, by show sl_ + 6 ≤ 5488810; omega⟩ rfl rfl hl.1 (Nat.le_of_ble_eq_true rfl) dL_law_886 ?_
  refine g_iload X dL_law_889 hl 1 rfl ?_
  refine g_icmp_eq X dL_law_891 (tgt := 896) (by decide) (by omega) (fun c891 => ?_) (fun c891 => ?_)
  · refine g_iload X dL_law_896 hl 1 rfl ?_
    refine g_if_ne X dL_law_898 (tgt := 913) (by decide) (by omega) (fun c898 => ?_) (fun c898 => ?_)
    · refine g_goto X dL_law_913 (tgt := 1506) (by decide) ?_
      refine W.widen (k := cc_ + 100) (n := sl_ + 5000) (by omega) (by omega) ?_
      exact K ad1 S1 M1 og1 H locs ls hk hS hPR2 hRL2 ead (lv_sub hl [2, 3, 4, 5, 6] rfl)
    · refine g_aload_n X dL_law_901 rfl hl 6 rfl ?_
      refine g_iconst X dL_law_902 ?_
      have e0 : erJ S y1 = 0 := by omega
      refine g_lald X hk hPR2.oo (j := 0) rfl (by decide) dL_law_903 ?_
      refine g_iload X dL_law_904 hl 0 rfl ?_
      refine lv_i2l X.1.1 X.1.2.1 dL_law_906 (v := lI z2) rfl ?_
      refine g_lcmpE X (by rw [(h0 e0).2, a1 e0]) dL_law_907 ?_
      refine g_if_eq X dL_law_908 (tgt := 913) (by decide) (by omega) (fun c908 => ?_) (fun c908 => ?_)
      · refine g_goto X dL_law_913 (tgt := 1506) (by decide) ?_
        refine W.widen (k := cc_ + 100) (n := sl_ + 5000) (by omega) (by omega) ?_
        exact K ad1 S1 M1 og1 H locs ls hk hS hPR2 hRL2 ead (lv_sub hl [2, 3, 4, 5, 6] rfl)
      · exact absurd rfl c908
  · exact absurd (t1) c891
set_option maxHeartbeats 4000000 in
theorem lc_12 {P_ : Program} {e_ : Env} {s : State} {M_ : MethodId} {bl : List Frame} {mt_ : Method} {c_ : Code} (l : Launch) (hst : l.stackTraces = false) {E : EP} {b L : Nat} {xs : Nat → Int32} (X : gX P_ s M_ mt_ c_ cL_law 7 ([.ref b] : List Value).toArray RX0 (some .boolean)) (hX : va_X b L xs s s.heap) (hbl : b < s.heap.size) (hL : L ≤ 384) (hE : eN E = s.heap.size) {Q : State → Prop} (ad : Nat → Nat → Nat) (S : GS) (am : Nat → Nat) (M : MS) (ob : Nat) (og : Nat → Int64) (H : Heap) (locs : List Loc) (ls : Array Slot) (cc_ sl_ i : Nat) (hR : cc_ + 100 ≤ 1200384 ∧ sl_ + 5000 ≤ 5488810) (hi : i + 5 < L) (hk : kk E s H) (hS : va_S (nA s.heap) s.heap H locs) (hPR : PR E ad S am M ob og H) (hRL : RL S M) (hl : lv_has ls 7 [(4, .int (iI ((i : Nat) : Int))), (0, .ref b), (1, .ref (ad 6 0)), (2, .ref (am 0)), (3, .ref ob)])
    (K : ∀ (ad1 : Nat → Nat → Nat) (S1 : GS) (M1 : MS) (og1 : Nat → Int64) (H1 : Heap) (locs1 : List Loc) (ls1 : Array Slot), kk E s H1 → va_S (nA s.heap) s.heap H1 locs1 → PR E ad1 S1 am M1 ob og1 H1 → RL S1 M1 → ad1 6 0 = ad 6 0 → lv_has ls1 7 [(4, .int (iI ((i : Nat) : Int))), (0, .ref b), (1, .ref (ad 6 0)), (2, .ref (am 0)), (3, .ref ob)] → W P_ l e_ room_1 s M_ ([.ref b] : List Value).toArray bl mt_ c_ H1 locs1 (cc_ + 100) (sl_ + 5000) Q (F0 M_ 1506 ls1 [])) : W P_ l e_ room_1 s M_ ([.ref b] : List Value).toArray bl mt_ c_ H locs cc_ sl_ Q (F0 M_ 916 ls []) := by
  obtain ⟨y1, ey1⟩ : ∃ y : Int, y = (xs (i + 1)).toInt := ⟨_, rfl⟩
  have hy1 : -2147483648 ≤ y1 ∧ y1 ≤ 2147483647 := by rw [ey1]; exact iI_rng _
  obtain ⟨y2, ey2⟩ : ∃ y : Int, y = (xs (i + 2)).toInt := ⟨_, rfl⟩
  have hy2 : -2147483648 ≤ y2 ∧ y2 ≤ 2147483647 := by rw [ey2]; exact iI_rng _
  obtain ⟨y3, ey3⟩ : ∃ y : Int, y = (xs (i + 3)).toInt := ⟨_, rfl⟩
  have hy3 : -2147483648 ≤ y3 ∧ y3 ≤ 2147483647 := by rw [ey3]; exact iI_rng _
  obtain ⟨hI, hMR, hMD, hMC, hMI, hid⟩ := id hRL
  have her : 0 ≤ erS S y1 y2 y3 ∧ erS S y1 y2 y3 ≤ 3 := by unfold erS; (repeat' split) <;> omega
  refine g_aload_n X dL_law_916 rfl hl 2 rfl ?_
  refine g_aload_n X dL_law_917 rfl hl 1 rfl ?_
  refine g_iload X dL_law_918 hl 0 rfl ?_
  refine g_iconst X dL_law_920 ?_
  refine g_iadd X dL_law_921 ?_
  refine g_sld X hX hbl hS (v := y1) (j := i + 1) (by omega) (by omega) ey1.symm dL_law_922 ?_
  refine g_aload_n X dL_law_923 rfl hl 1 rfl ?_
  refine g_iload X dL_law_924 hl 0 rfl ?_
  refine g_iconst X dL_law_926 ?_
  refine g_iadd X dL_law_927 ?_
  refine g_sld X hX hbl hS (v := y2) (j := i + 2) (by omega) (by omega) ey2.symm dL_law_928 ?_
  refine g_aload_n X dL_law_929 rfl hl 1 rfl ?_
  refine g_iload X dL_law_930 hl 0 rfl ?_
  refine g_iconst X dL_law_932 ?_
  refine g_iadd X dL_law_933 ?_
  refine g_sld X hX hbl hS (v := y3) (j := i + 3) (by omega) (by omega) ey3.symm dL_law_934 ?_
  refine g_aload_n X dL_law_935 rfl hl 4 rfl ?_
  have hkN := hk.N
  refine g_wrun X hk hS (As := [.ref (ad 6 0), .int (iI y1), .int (iI y2), .int (iI y3), .ref ob]) (rest := []) (w_isGreen l E hst ad S ob og y1 y2 y3 H hPR.pp hI hy1 hy2 hy3 hPR.oo hPR.aa hPR.nn) 5 (lw_SW q487 q488 q45 q489) (by decide +kernel) ⟨⟨Nat.le_of_ble_eq_true rfl, Nat.le_of_ble_eq_true rfl⟩, by show cc_ + 6 ≤ 1200384; omega, by show sl_ + 130 ≤ 5488810; omega⟩ rfl rfl hl.1 (Nat.le_of_ble_eq_true rfl) dL_law_936 (fun q h => by have := hPR.oWn hkN q h; omega) (hPR.oWn hkN) (fun z H locs hw hk hz_ ho_ hS => ?_)
  obtain ⟨hz0, ad1, S1, og1, hPR, ead, h0, h1⟩ := hPR.wr hw ho_
  subst hz0
  refine g_istore (lv' := [(5, .int (iI (erS S y1 y2 y3))), (4, .int (iI ((i : Nat) : Int))), (0, .ref b), (1, .ref (ad 6 0)), (2, .ref (am 0)), (3, .ref ob)]) X dL_law_939 hl (by decide) rfl (fun ls hl => ?_)
  refine g_aload_n X dL_law_941 rfl hl 4 rfl ?_
  refine g_aload_n X dL_law_942 rfl hl 2 rfl ?_
  refine g_iload X dL_law_943 hl 1 rfl ?_
  refine g_iconst X dL_law_945 ?_
  refine g_iadd X dL_law_946 ?_
  refine g_sld X hX hbl hS (v := y1) (j := i + 1) (by omega) (by omega) ey1.symm dL_law_947 ?_
  refine g_aload_n X dL_law_948 rfl hl 2 rfl ?_
  refine g_iload X dL_law_949 hl 1 rfl ?_
  refine g_iconst X dL_law_951 ?_
  refine g_iadd X dL_law_952 ?_
  refine g_sld X hX hbl hS (v := y2) (j := i + 2) (by omega) (by omega) ey2.symm dL_law_953 ?_
  refine g_aload_n X dL_law_954 rfl hl 2 rfl ?_
  refine g_iload X dL_law_955 hl 1 rfl ?_
  refine g_iconst X dL_law_957 ?_
  refine g_iadd X dL_law_958 ?_
  refine g_sld X hX hbl hS (v := y3) (j := i + 3) (by omega) (by omega) ey3.symm dL_law_959 ?_
  refine g_calli (g_runV X hk (As := [.int (iI y1), .int (iI y2), .int (iI y3)]) (rest := []) rfl (MP.O hPR.mm) (m_isGreen l E am S M H hPR.mm hI hMR hMI y1 y2 y3 hy1 hy2 hy3) 3 (lw_V q831 q832 q833 q48 q834) (by decide +kernel) ⟨⟨Nat.le_of_ble_eq_true rfl, Nat.le_of_ble_eq_true rfl⟩, by show cc_ + 6 + 0 ≤ 1200384; omega, by show sl_ + 130 + 0 ≤ 5488810; omega⟩ rfl rfl hl.1 (Nat.le_of_ble_eq_true rfl) dL_law_960) hk hS (fun q h => by have := MP.N hPR.mm q h; omega) (MP.N hPR.mm) (fun z2 H locs hP_ hk hz_ ho2_ hS => ?_)
  obtain ⟨M1, hM1, t1, a1, q1⟩ := hP_
  have hPR2 := hPR.md hM1 ho2_
  have ht1 : 0 ≤ M1 0 0 ∧ M1 0 0 ≤ 3 := by rw [t1]; omega
  have hRL2 : RL S1 M1 := by by_cases e0 : erS S y1 y2 y3 = 0; (rw [(h0 e0).1]; exact hRL.Q q1); (rw [h1 e0]; exact hRL.Q q1)
  refine g_istore (lv' := [(6, .int (iI z2)), (5, .int (iI (erS S y1 y2 y3))), (4, .int (iI ((i : Nat) : Int))), (0, .ref b), (1, .ref (ad 6 0)), (2, .ref (am 0)), (3, .ref ob)]) X dL_law_963 hl (by decide) rfl (fun ls hl => ?_)
  refine g_aload_n X dL_law_965 rfl hl 5 rfl ?_
  refine g_pV X hk (As := []) (rest := []) rfl (MP.O hPR2.mm) (m_thrown l E am M1 H hPR2.mm) 0 (lw_V q683 q684 q685 q48 q686) (by decide +kernel) ⟨⟨Nat.le_of_ble_eq_true rfl, Nat.le_of_ble_eq_true rfl⟩, by show cc_ + 6 ≤ 1200384; omega, by show sl_ + 130 ≤ 5488810; omega⟩ rfl rfl hl.1 (Nat.le_of_ble_eq_true rfl) dL_law_966 ?_
  refine g_iload X dL_law_969 hl 1 rfl ?_
  refine g_icmp_eq X dL_law_971 (tgt := 976) (by decide) (by omega) (fun c971 => ?_) (fun c971 => ?_)
  · refine g_iload X dL_law_976 hl 1 rfl ?_
    refine g_if_ne X dL_law_978 (tgt := 1000) (by decide) (by omega) (fun c978 => ?_) (fun c978 => ?_)
    · refine g_goto X dL_law_1000 (tgt := 1506) (by decide) ?_
      refine W.widen (k := cc_ + 100) (n := sl_ + 5000) (by omega) (by omega) ?_
      exact K ad1 S1 M1 og1 H locs ls hk hS hPR2 hRL2 ead (lv_sub hl [2, 3, 4, 5, 6] rfl)
    · refine g_aload_n X dL_law_981 rfl hl 6 rfl ?_
      refine g_iconst X dL_law_982 ?_
      have e0 : erS S y1 y2 y3 = 0 := by omega
      have hz2 := a1 e0
      have hbz := bZ_le (gAt S y1.toNat y2 y3)
      refine g_lald X hk hPR2.oo (j := 0) rfl (by decide) dL_law_983 ?_
      refine g_iload X dL_law_984 hl 0 rfl ?_
      refine g_if_eq X dL_law_986 (tgt := 993) (by decide) (by omega) (fun c986 => ?_) (fun c986 => ?_)
      · refine lv_lconst X.1.1 X.1.2.1 dL_law_993 (v := 0) rfl ?_
        refine g_lcmpE X (by rw [(h0 e0).2, ← a1 e0, show z2 = 0 by omega]; rfl) dL_law_994 ?_
        refine g_if_eq X dL_law_995 (tgt := 1000) (by decide) (by omega) (fun c995 => ?_) (fun c995 => ?_)
        · refine g_goto X dL_law_1000 (tgt := 1506) (by decide) ?_
          refine W.widen (k := cc_ + 100) (n := sl_ + 5000) (by omega) (by omega) ?_
          exact K ad1 S1 M1 og1 H locs ls hk hS hPR2 hRL2 ead (lv_sub hl [2, 3, 4, 5, 6] rfl)
        · exact absurd rfl c995
      · refine lv_lconst X.1.1 X.1.2.1 dL_law_989 (v := 1) rfl ?_
        refine g_goto X dL_law_990 (tgt := 994) (by decide) ?_
        refine g_lcmpE X (by rw [(h0 e0).2, ← a1 e0, show z2 = 1 by omega]; rfl) dL_law_994 ?_
        refine g_if_eq X dL_law_995 (tgt := 1000) (by decide) (by omega) (fun c995 => ?_) (fun c995 => ?_)
        · refine g_goto X dL_law_1000 (tgt := 1506) (by decide) ?_
          refine W.widen (k := cc_ + 100) (n := sl_ + 5000) (by omega) (by omega) ?_
          exact K ad1 S1 M1 og1 H locs ls hk hS hPR2 hRL2 ead (lv_sub hl [2, 3, 4, 5, 6] rfl)
        · exact absurd rfl c995
  · exact absurd (t1) c971
set_option maxHeartbeats 4000000 in
theorem lc_13 {P_ : Program} {e_ : Env} {s : State} {M_ : MethodId} {bl : List Frame} {mt_ : Method} {c_ : Code} (l : Launch) (hst : l.stackTraces = false) {E : EP} {b L : Nat} {xs : Nat → Int32} (X : gX P_ s M_ mt_ c_ cL_law 7 ([.ref b] : List Value).toArray RX0 (some .boolean)) (hX : va_X b L xs s s.heap) (hbl : b < s.heap.size) (hL : L ≤ 384) (hE : eN E = s.heap.size) {Q : State → Prop} (ad : Nat → Nat → Nat) (S : GS) (am : Nat → Nat) (M : MS) (ob : Nat) (og : Nat → Int64) (H : Heap) (locs : List Loc) (ls : Array Slot) (cc_ sl_ i : Nat) (hR : cc_ + 100 ≤ 1200384 ∧ sl_ + 5000 ≤ 5488810) (hi : i + 5 < L) (hk : kk E s H) (hS : va_S (nA s.heap) s.heap H locs) (hPR : PR E ad S am M ob og H) (hRL : RL S M) (hl : lv_has ls 7 [(4, .int (iI ((i : Nat) : Int))), (0, .ref b), (1, .ref (ad 6 0)), (2, .ref (am 0)), (3, .ref ob)])
    (K : ∀ (ad1 : Nat → Nat → Nat) (S1 : GS) (M1 : MS) (og1 : Nat → Int64) (H1 : Heap) (locs1 : List Loc) (ls1 : Array Slot), kk E s H1 → va_S (nA s.heap) s.heap H1 locs1 → PR E ad1 S1 am M1 ob og1 H1 → RL S1 M1 → ad1 6 0 = ad 6 0 → lv_has ls1 7 [(4, .int (iI ((i : Nat) : Int))), (0, .ref b), (1, .ref (ad 6 0)), (2, .ref (am 0)), (3, .ref ob)] → W P_ l e_ room_1 s M_ ([.ref b] : List Value).toArray bl mt_ c_ H1 locs1 (cc_ + 100) (sl_ + 5000) Q (F0 M_ 1506 ls1 [])) : W P_ l e_ room_1 s M_ ([.ref b] : List Value).toArray bl mt_ c_ H locs cc_ sl_ Q (F0 M_ 1003 ls []) := by
  obtain ⟨y1, ey1⟩ : ∃ y : Int, y = (xs (i + 1)).toInt := ⟨_, rfl⟩
  have hy1 : -2147483648 ≤ y1 ∧ y1 ≤ 2147483647 := by rw [ey1]; exact iI_rng _
  obtain ⟨hI, hMR, hMD, hMC, hMI, hid⟩ := id hRL
  have her : 0 ≤ erN S y1 ∧ erN S y1 ≤ 2 := by unfold erN; (repeat' split) <;> omega
  refine g_aload_n X dL_law_1003 rfl hl 2 rfl ?_
  refine g_aload_n X dL_law_1004 rfl hl 1 rfl ?_
  refine g_iload X dL_law_1005 hl 0 rfl ?_
  refine g_iconst X dL_law_1007 ?_
  refine g_iadd X dL_law_1008 ?_
  refine g_sld X hX hbl hS (v := y1) (j := i + 1) (by omega) (by omega) ey1.symm dL_law_1009 ?_
  refine g_aload_n X dL_law_1010 rfl hl 4 rfl ?_
  have hkN := hk.N
  refine g_wrun X hk hS (As := [.ref (ad 6 0), .int (iI y1), .ref ob]) (rest := []) (w_breaches l E hst ad S ob og y1 H hPR.pp hI hy1 hPR.oo hPR.aa hPR.nn) 3 (lw_SW q495 q496 q45 q497) (by decide +kernel) ⟨⟨Nat.le_of_ble_eq_true rfl, Nat.le_of_ble_eq_true rfl⟩, by show cc_ + 11 ≤ 1200384; omega, by show sl_ + 400 ≤ 5488810; omega⟩ rfl rfl hl.1 (Nat.le_of_ble_eq_true rfl) dL_law_1011 (fun q h => by have := hPR.oWn hkN q h; omega) (hPR.oWn hkN) (fun z H locs hw hk hz_ ho_ hS => ?_)
  obtain ⟨hz0, ad1, S1, og1, hPR, ead, h0, h1⟩ := hPR.wr hw ho_
  subst hz0
  refine g_istore (lv' := [(5, .int (iI (erN S y1))), (4, .int (iI ((i : Nat) : Int))), (0, .ref b), (1, .ref (ad 6 0)), (2, .ref (am 0)), (3, .ref ob)]) X dL_law_1014 hl (by decide) rfl (fun ls hl => ?_)
  refine g_aload_n X dL_law_1016 rfl hl 4 rfl ?_
  refine g_aload_n X dL_law_1017 rfl hl 2 rfl ?_
  refine g_iload X dL_law_1018 hl 1 rfl ?_
  refine g_iconst X dL_law_1020 ?_
  refine g_iadd X dL_law_1021 ?_
  refine g_sld X hX hbl hS (v := y1) (j := i + 1) (by omega) (by omega) ey1.symm dL_law_1022 ?_
  refine g_calli (g_runV X hk (As := [.int (iI y1)]) (rest := []) rfl (MP.O hPR.mm) (m_breaches l E am S M H hPR.mm hI hMR hMI y1 hy1) 1 (lw_V q836 q837 q838 q48 q839) (by decide +kernel) ⟨⟨Nat.le_of_ble_eq_true rfl, Nat.le_of_ble_eq_true rfl⟩, by show cc_ + 11 + 0 ≤ 1200384; omega, by show sl_ + 400 + 0 ≤ 5488810; omega⟩ rfl rfl hl.1 (Nat.le_of_ble_eq_true rfl) dL_law_1023) hk hS (fun q h => by have := MP.N hPR.mm q h; omega) (MP.N hPR.mm) (fun z2 H locs hP_ hk hz_ ho2_ hS => ?_)
  obtain ⟨M1, hM1, t1, a1, q1⟩ := hP_
  have hPR2 := hPR.md hM1 ho2_
  have ht1 : 0 ≤ M1 0 0 ∧ M1 0 0 ≤ 3 := by rw [t1]; omega
  have a1 := fun e0 : erN S y1 = 0 => (a1 e0).trans (A_breaches hRL e0)
  have hRL2 : RL S1 M1 := by by_cases e0 : erN S y1 = 0; (rw [(h0 e0).1]; exact hRL.Q q1); (rw [h1 e0]; exact hRL.Q q1)
  refine g_istore (lv' := [(6, .int (iI z2)), (5, .int (iI (erN S y1))), (4, .int (iI ((i : Nat) : Int))), (0, .ref b), (1, .ref (ad 6 0)), (2, .ref (am 0)), (3, .ref ob)]) X dL_law_1026 hl (by decide) rfl (fun ls hl => ?_)
  refine g_aload_n X dL_law_1028 rfl hl 5 rfl ?_
  refine g_pV X hk (As := []) (rest := []) rfl (MP.O hPR2.mm) (m_thrown l E am M1 H hPR2.mm) 0 (lw_V q683 q684 q685 q48 q686) (by decide +kernel) ⟨⟨Nat.le_of_ble_eq_true rfl, Nat.le_of_ble_eq_true rfl⟩, by show cc_ + 11 ≤ 1200384; omega, by show sl_ + 400 ≤ 5488810; omega⟩ rfl rfl hl.1 (Nat.le_of_ble_eq_true rfl) dL_law_1029 ?_
  refine g_iload X dL_law_1032 hl 1 rfl ?_
  refine g_icmp_eq X dL_law_1034 (tgt := 1039) (by decide) (by omega) (fun c1034 => ?_) (fun c1034 => ?_)
  · refine g_iload X dL_law_1039 hl 1 rfl ?_
    refine g_if_ne X dL_law_1041 (tgt := 1056) (by decide) (by omega) (fun c1041 => ?_) (fun c1041 => ?_)
    · refine g_goto X dL_law_1056 (tgt := 1506) (by decide) ?_
      refine W.widen (k := cc_ + 100) (n := sl_ + 5000) (by omega) (by omega) ?_
      exact K ad1 S1 M1 og1 H locs ls hk hS hPR2 hRL2 ead (lv_sub hl [2, 3, 4, 5, 6] rfl)
    · refine g_aload_n X dL_law_1044 rfl hl 6 rfl ?_
      refine g_iconst X dL_law_1045 ?_
      have e0 : erN S y1 = 0 := by omega
      refine g_lald X hk hPR2.oo (j := 0) rfl (by decide) dL_law_1046 ?_
      refine g_iload X dL_law_1047 hl 0 rfl ?_
      refine lv_i2l X.1.1 X.1.2.1 dL_law_1049 (v := lI z2) rfl ?_
      refine g_lcmpE X (by rw [(h0 e0).2, a1 e0]) dL_law_1050 ?_
      refine g_if_eq X dL_law_1051 (tgt := 1056) (by decide) (by omega) (fun c1051 => ?_) (fun c1051 => ?_)
      · refine g_goto X dL_law_1056 (tgt := 1506) (by decide) ?_
        refine W.widen (k := cc_ + 100) (n := sl_ + 5000) (by omega) (by omega) ?_
        exact K ad1 S1 M1 og1 H locs ls hk hS hPR2 hRL2 ead (lv_sub hl [2, 3, 4, 5, 6] rfl)
      · exact absurd rfl c1051
  · exact absurd (t1) c1034
set_option maxHeartbeats 4000000 in
theorem lc_14 {P_ : Program} {e_ : Env} {s : State} {M_ : MethodId} {bl : List Frame} {mt_ : Method} {c_ : Code} (l : Launch) (hst : l.stackTraces = false) {E : EP} {b L : Nat} {xs : Nat → Int32} (X : gX P_ s M_ mt_ c_ cL_law 7 ([.ref b] : List Value).toArray RX0 (some .boolean)) (hX : va_X b L xs s s.heap) (hbl : b < s.heap.size) (hL : L ≤ 384) (hE : eN E = s.heap.size) {Q : State → Prop} (ad : Nat → Nat → Nat) (S : GS) (am : Nat → Nat) (M : MS) (ob : Nat) (og : Nat → Int64) (H : Heap) (locs : List Loc) (ls : Array Slot) (cc_ sl_ i : Nat) (hR : cc_ + 100 ≤ 1200384 ∧ sl_ + 5000 ≤ 5488810) (hi : i + 5 < L) (hk : kk E s H) (hS : va_S (nA s.heap) s.heap H locs) (hPR : PR E ad S am M ob og H) (hRL : RL S M) (hl : lv_has ls 7 [(4, .int (iI ((i : Nat) : Int))), (0, .ref b), (1, .ref (ad 6 0)), (2, .ref (am 0)), (3, .ref ob)])
    (K : ∀ (ad1 : Nat → Nat → Nat) (S1 : GS) (M1 : MS) (og1 : Nat → Int64) (H1 : Heap) (locs1 : List Loc) (ls1 : Array Slot), kk E s H1 → va_S (nA s.heap) s.heap H1 locs1 → PR E ad1 S1 am M1 ob og1 H1 → RL S1 M1 → ad1 6 0 = ad 6 0 → lv_has ls1 7 [(4, .int (iI ((i : Nat) : Int))), (0, .ref b), (1, .ref (ad 6 0)), (2, .ref (am 0)), (3, .ref ob)] → W P_ l e_ room_1 s M_ ([.ref b] : List Value).toArray bl mt_ c_ H1 locs1 (cc_ + 100) (sl_ + 5000) Q (F0 M_ 1506 ls1 [])) : W P_ l e_ room_1 s M_ ([.ref b] : List Value).toArray bl mt_ c_ H locs cc_ sl_ Q (F0 M_ 1059 ls []) := by
  obtain ⟨y1, ey1⟩ : ∃ y : Int, y = (xs (i + 1)).toInt := ⟨_, rfl⟩
  have hy1 : -2147483648 ≤ y1 ∧ y1 ≤ 2147483647 := by rw [ey1]; exact iI_rng _
  obtain ⟨hI, hMR, hMD, hMC, hMI, hid⟩ := id hRL
  have her : 0 ≤ erD S ∧ erD S ≤ 1 := by unfold erD; (repeat' split) <;> omega
  refine g_aload_n X dL_law_1059 rfl hl 2 rfl ?_
  refine g_aload_n X dL_law_1060 rfl hl 1 rfl ?_
  refine g_iload X dL_law_1061 hl 0 rfl ?_
  refine g_iconst X dL_law_1063 ?_
  refine g_iadd X dL_law_1064 ?_
  refine g_sld X hX hbl hS (v := y1) (j := i + 1) (by omega) (by omega) ey1.symm dL_law_1065 ?_
  refine g_if_eq X dL_law_1066 (tgt := 1073) (by decide) (by omega) (fun c1066 => ?_) (fun c1066 => ?_)
  · refine g_iconst X dL_law_1073 ?_
    refine g_aload_n X dL_law_1074 rfl hl 4 rfl ?_
    have hkN := hk.N
    refine g_wrun X hk hS (As := [.ref (ad 6 0), .int (iI 0), .ref ob]) (rest := []) (w_bandF l E hst ad S ob og H hPR.pp hI hPR.oo hPR.aa hPR.nn) 3 (lw_SW q502 q503 q45 q504) (by decide +kernel) ⟨⟨Nat.le_of_ble_eq_true rfl, Nat.le_of_ble_eq_true rfl⟩, by show cc_ + 22 ≤ 1200384; omega, by show sl_ + 956 ≤ 5488810; omega⟩ rfl rfl hl.1 (Nat.le_of_ble_eq_true rfl) dL_law_1075 (fun q h => by have := hPR.oWn hkN q h; omega) (hPR.oWn hkN) (fun z H locs hw hk hz_ ho_ hS => ?_)
    obtain ⟨hz0, ad1, S1, og1, hPR, ead, h0, h1⟩ := hPR.wr hw ho_
    subst hz0
    refine g_istore (lv' := [(5, .int (iI (erD S))), (4, .int (iI ((i : Nat) : Int))), (0, .ref b), (1, .ref (ad 6 0)), (2, .ref (am 0)), (3, .ref ob)]) X dL_law_1078 hl (by decide) rfl (fun ls hl => ?_)
    refine g_aload_n X dL_law_1080 rfl hl 4 rfl ?_
    refine g_aload_n X dL_law_1081 rfl hl 2 rfl ?_
    refine g_iload X dL_law_1082 hl 1 rfl ?_
    refine g_iconst X dL_law_1084 ?_
    refine g_iadd X dL_law_1085 ?_
    refine g_sld X hX hbl hS (v := y1) (j := i + 1) (by omega) (by omega) ey1.symm dL_law_1086 ?_
    refine g_if_eq X dL_law_1087 (tgt := 1094) (by decide) (by omega) (fun c1087 => ?_) (fun c1087 => ?_)
    · refine g_iconst X dL_law_1094 ?_
      refine g_calli (g_runV X hk (As := [.int (iI 0)]) (rest := []) rfl (MP.O hPR.mm) (m_band l E am S M H hPR.mm hI hMR hMI false) 1 (lw_V q844 q845 q846 q48 q847) (by decide +kernel) ⟨⟨Nat.le_of_ble_eq_true rfl, Nat.le_of_ble_eq_true rfl⟩, by show cc_ + 22 + 0 ≤ 1200384; omega, by show sl_ + 956 + 0 ≤ 5488810; omega⟩ rfl rfl hl.1 (Nat.le_of_ble_eq_true rfl) dL_law_1095) hk hS (fun q h => by have := MP.N hPR.mm q h; omega) (MP.N hPR.mm) (fun z2 H locs hP_ hk hz_ ho2_ hS => ?_)
      obtain ⟨M1, hM1, t1, a1, q1⟩ := hP_
      have hPR2 := hPR.md hM1 ho2_
      have ht1 : 0 ≤ M1 0 0 ∧ M1 0 0 ≤ 3 := by rw [t1]; omega
      have hRL2 : RL S1 M1 := by by_cases e0 : erD S = 0; (rw [(h0 e0).1]; exact hRL.Q q1); (rw [h1 e0]; exact hRL.Q q1)
      refine g_istore (lv' := [(6, .int (iI z2)), (5, .int (iI (erD S))), (4, .int (iI ((i : Nat) : Int))), (0, .ref b), (1, .ref (ad 6 0)), (2, .ref (am 0)), (3, .ref ob)]) X dL_law_1098 hl (by decide) rfl (fun ls hl => ?_)
      refine g_aload_n X dL_law_1100 rfl hl 5 rfl ?_
      refine g_pV X hk (As := []) (rest := []) rfl (MP.O hPR2.mm) (m_thrown l E am M1 H hPR2.mm) 0 (lw_V q683 q684 q685 q48 q686) (by decide +kernel) ⟨⟨Nat.le_of_ble_eq_true rfl, Nat.le_of_ble_eq_true rfl⟩, by show cc_ + 22 ≤ 1200384; omega, by show sl_ + 956 ≤ 5488810; omega⟩ rfl rfl hl.1 (Nat.le_of_ble_eq_true rfl) dL_law_1101 ?_
      refine g_iload X dL_law_1104 hl 1 rfl ?_
      refine g_icmp_eq X dL_law_1106 (tgt := 1111) (by decide) (by omega) (fun c1106 => ?_) (fun c1106 => ?_)
      · refine g_iload X dL_law_1111 hl 1 rfl ?_
        refine g_if_ne X dL_law_1113 (tgt := 1128) (by decide) (by omega) (fun c1113 => ?_) (fun c1113 => ?_)
        · refine g_goto X dL_law_1128 (tgt := 1506) (by decide) ?_
          refine W.widen (k := cc_ + 100) (n := sl_ + 5000) (by omega) (by omega) ?_
          exact K ad1 S1 M1 og1 H locs ls hk hS hPR2 hRL2 ead (lv_sub hl [2, 3, 4, 5, 6] rfl)
        · refine g_aload_n X dL_law_1116 rfl hl 6 rfl ?_
          refine g_iconst X dL_law_1117 ?_
          have e0 : erD S = 0 := by omega
          refine g_lald X hk hPR2.oo (j := 0) rfl (by decide) dL_law_1118 ?_
          refine g_iload X dL_law_1119 hl 0 rfl ?_
          refine lv_i2l X.1.1 X.1.2.1 dL_law_1121 (v := lI z2) rfl ?_
          refine g_lcmpE X (by rw [(h0 e0).2, a1 e0]) dL_law_1122 ?_
          refine g_if_eq X dL_law_1123 (tgt := 1128) (by decide) (by omega) (fun c1123 => ?_) (fun c1123 => ?_)
          · refine g_goto X dL_law_1128 (tgt := 1506) (by decide) ?_
            refine W.widen (k := cc_ + 100) (n := sl_ + 5000) (by omega) (by omega) ?_
            exact K ad1 S1 M1 og1 H locs ls hk hS hPR2 hRL2 ead (lv_sub hl [2, 3, 4, 5, 6] rfl)
          · exact absurd rfl c1123
      · exact absurd (t1) c1106
    · exact absurd c1066 c1087
  · refine g_iconst X dL_law_1069 ?_
    refine g_goto X dL_law_1070 (tgt := 1074) (by decide) ?_
    refine g_aload_n X dL_law_1074 rfl hl 4 rfl ?_
    have hkN := hk.N
    refine g_wrun X hk hS (As := [.ref (ad 6 0), .int (iI 1), .ref ob]) (rest := []) (w_bandT l E hst ad S ob og H hPR.pp hI hPR.oo hPR.aa hPR.nn) 3 (lw_SW q502 q503 q45 q504) (by decide +kernel) ⟨⟨Nat.le_of_ble_eq_true rfl, Nat.le_of_ble_eq_true rfl⟩, by show cc_ + 22 ≤ 1200384; omega, by show sl_ + 956 ≤ 5488810; omega⟩ rfl rfl hl.1 (Nat.le_of_ble_eq_true rfl) dL_law_1075 (fun q h => by have := hPR.oWn hkN q h; omega) (hPR.oWn hkN) (fun z H locs hw hk hz_ ho_ hS => ?_)
    obtain ⟨hz0, ad1, S1, og1, hPR, ead, h0, h1⟩ := hPR.wr hw ho_
    subst hz0
    refine g_istore (lv' := [(5, .int (iI (erD S))), (4, .int (iI ((i : Nat) : Int))), (0, .ref b), (1, .ref (ad 6 0)), (2, .ref (am 0)), (3, .ref ob)]) X dL_law_1078 hl (by decide) rfl (fun ls hl => ?_)
    refine g_aload_n X dL_law_1080 rfl hl 4 rfl ?_
    refine g_aload_n X dL_law_1081 rfl hl 2 rfl ?_
    refine g_iload X dL_law_1082 hl 1 rfl ?_
    refine g_iconst X dL_law_1084 ?_
    refine g_iadd X dL_law_1085 ?_
    refine g_sld X hX hbl hS (v := y1) (j := i + 1) (by omega) (by omega) ey1.symm dL_law_1086 ?_
    refine g_if_eq X dL_law_1087 (tgt := 1094) (by decide) (by omega) (fun c1087 => ?_) (fun c1087 => ?_)
    · exact absurd c1087 c1066
    · refine g_iconst X dL_law_1090 ?_
      refine g_goto X dL_law_1091 (tgt := 1095) (by decide) ?_
      refine g_calli (g_runV X hk (As := [.int (iI 1)]) (rest := []) rfl (MP.O hPR.mm) (m_band l E am S M H hPR.mm hI hMR hMI true) 1 (lw_V q844 q845 q846 q48 q847) (by decide +kernel) ⟨⟨Nat.le_of_ble_eq_true rfl, Nat.le_of_ble_eq_true rfl⟩, by show cc_ + 22 + 0 ≤ 1200384; omega, by show sl_ + 956 + 0 ≤ 5488810; omega⟩ rfl rfl hl.1 (Nat.le_of_ble_eq_true rfl) dL_law_1095) hk hS (fun q h => by have := MP.N hPR.mm q h; omega) (MP.N hPR.mm) (fun z2 H locs hP_ hk hz_ ho2_ hS => ?_)
      obtain ⟨M1, hM1, t1, a1, q1⟩ := hP_
      have hPR2 := hPR.md hM1 ho2_
      have ht1 : 0 ≤ M1 0 0 ∧ M1 0 0 ≤ 3 := by rw [t1]; omega
      have hRL2 : RL S1 M1 := by by_cases e0 : erD S = 0; (rw [(h0 e0).1]; exact hRL.Q q1); (rw [h1 e0]; exact hRL.Q q1)
      refine g_istore (lv' := [(6, .int (iI z2)), (5, .int (iI (erD S))), (4, .int (iI ((i : Nat) : Int))), (0, .ref b), (1, .ref (ad 6 0)), (2, .ref (am 0)), (3, .ref ob)]) X dL_law_1098 hl (by decide) rfl (fun ls hl => ?_)
      refine g_aload_n X dL_law_1100 rfl hl 5 rfl ?_
      refine g_pV X hk (As := []) (rest := []) rfl (MP.O hPR2.mm) (m_thrown l E am M1 H hPR2.mm) 0 (lw_V q683 q684 q685 q48 q686) (by decide +kernel) ⟨⟨Nat.le_of_ble_eq_true rfl, Nat.le_of_ble_eq_true rfl⟩, by show cc_ + 22 ≤ 1200384; omega, by show sl_ + 956 ≤ 5488810; omega⟩ rfl rfl hl.1 (Nat.le_of_ble_eq_true rfl) dL_law_1101 ?_
      refine g_iload X dL_law_1104 hl 1 rfl ?_
      refine g_icmp_eq X dL_law_1106 (tgt := 1111) (by decide) (by omega) (fun c1106 => ?_) (fun c1106 => ?_)
      · refine g_iload X dL_law_1111 hl 1 rfl ?_
        refine g_if_ne X dL_law_1113 (tgt := 1128) (by decide) (by omega) (fun c1113 => ?_) (fun c1113 => ?_)
        · refine g_goto X dL_law_1128 (tgt := 1506) (by decide) ?_
          refine W.widen (k := cc_ + 100) (n := sl_ + 5000) (by omega) (by omega) ?_
          exact K ad1 S1 M1 og1 H locs ls hk hS hPR2 hRL2 ead (lv_sub hl [2, 3, 4, 5, 6] rfl)
        · refine g_aload_n X dL_law_1116 rfl hl 6 rfl ?_
          refine g_iconst X dL_law_1117 ?_
          have e0 : erD S = 0 := by omega
          refine g_lald X hk hPR2.oo (j := 0) rfl (by decide) dL_law_1118 ?_
          refine g_iload X dL_law_1119 hl 0 rfl ?_
          refine lv_i2l X.1.1 X.1.2.1 dL_law_1121 (v := lI z2) rfl ?_
          refine g_lcmpE X (by rw [(h0 e0).2, a1 e0]) dL_law_1122 ?_
          refine g_if_eq X dL_law_1123 (tgt := 1128) (by decide) (by omega) (fun c1123 => ?_) (fun c1123 => ?_)
          · refine g_goto X dL_law_1128 (tgt := 1506) (by decide) ?_
            refine W.widen (k := cc_ + 100) (n := sl_ + 5000) (by omega) (by omega) ?_
            exact K ad1 S1 M1 og1 H locs ls hk hS hPR2 hRL2 ead (lv_sub hl [2, 3, 4, 5, 6] rfl)
          · exact absurd rfl c1123
      · exact absurd (t1) c1106
set_option maxHeartbeats 4000000 in
theorem lc_15 {P_ : Program} {e_ : Env} {s : State} {M_ : MethodId} {bl : List Frame} {mt_ : Method} {c_ : Code} (l : Launch) (hst : l.stackTraces = false) {E : EP} {b L : Nat} {xs : Nat → Int32} (X : gX P_ s M_ mt_ c_ cL_law 7 ([.ref b] : List Value).toArray RX0 (some .boolean)) (hX : va_X b L xs s s.heap) (hbl : b < s.heap.size) (hL : L ≤ 384) (hE : eN E = s.heap.size) {Q : State → Prop} (ad : Nat → Nat → Nat) (S : GS) (am : Nat → Nat) (M : MS) (ob : Nat) (og : Nat → Int64) (H : Heap) (locs : List Loc) (ls : Array Slot) (cc_ sl_ i : Nat) (hR : cc_ + 100 ≤ 1200384 ∧ sl_ + 5000 ≤ 5488810) (hi : i + 5 < L) (hk : kk E s H) (hS : va_S (nA s.heap) s.heap H locs) (hPR : PR E ad S am M ob og H) (hRL : RL S M) (hl : lv_has ls 7 [(4, .int (iI ((i : Nat) : Int))), (0, .ref b), (1, .ref (ad 6 0)), (2, .ref (am 0)), (3, .ref ob)])
    (K : ∀ (ad1 : Nat → Nat → Nat) (S1 : GS) (M1 : MS) (og1 : Nat → Int64) (H1 : Heap) (locs1 : List Loc) (ls1 : Array Slot), kk E s H1 → va_S (nA s.heap) s.heap H1 locs1 → PR E ad1 S1 am M1 ob og1 H1 → RL S1 M1 → ad1 6 0 = ad 6 0 → lv_has ls1 7 [(4, .int (iI ((i : Nat) : Int))), (0, .ref b), (1, .ref (ad 6 0)), (2, .ref (am 0)), (3, .ref ob)] → W P_ l e_ room_1 s M_ ([.ref b] : List Value).toArray bl mt_ c_ H1 locs1 (cc_ + 100) (sl_ + 5000) Q (F0 M_ 1506 ls1 [])) : W P_ l e_ room_1 s M_ ([.ref b] : List Value).toArray bl mt_ c_ H locs cc_ sl_ Q (F0 M_ 1131 ls []) := by
  obtain ⟨hI, hMR, hMD, hMC, hMI, hid⟩ := id hRL
  have her : 0 ≤ erA S ∧ erA S ≤ 1 := by unfold erA; (repeat' split) <;> omega
  refine g_aload_n X dL_law_1131 rfl hl 2 rfl ?_
  refine g_aload_n X dL_law_1132 rfl hl 4 rfl ?_
  have hkN := hk.N
  refine g_wrun X hk hS (As := [.ref (ad 6 0), .ref ob]) (rest := []) (w_bestByAll l E hst ad S ob og  H hPR.pp hI  hPR.oo hPR.aa hPR.nn) 2 (lw_SW q509 q510 q45 q511) (by decide +kernel) ⟨⟨Nat.le_of_ble_eq_true rfl, Nat.le_of_ble_eq_true rfl⟩, by show cc_ + 24 ≤ 1200384; omega, by show sl_ + 970 ≤ 5488810; omega⟩ rfl rfl hl.1 (Nat.le_of_ble_eq_true rfl) dL_law_1133 (fun q h => by have := hPR.oWn hkN q h; omega) (hPR.oWn hkN) (fun z H locs hw hk hz_ ho_ hS => ?_)
  obtain ⟨hz0, ad1, S1, og1, hPR, ead, h0, h1⟩ := hPR.wr hw ho_
  subst hz0
  refine g_istore (lv' := [(5, .int (iI (erA S))), (4, .int (iI ((i : Nat) : Int))), (0, .ref b), (1, .ref (ad 6 0)), (2, .ref (am 0)), (3, .ref ob)]) X dL_law_1136 hl (by decide) rfl (fun ls hl => ?_)
  refine g_aload_n X dL_law_1138 rfl hl 4 rfl ?_
  refine g_calli (g_runV X hk (As := []) (rest := []) rfl (MP.O hPR.mm) (m_bestByAll l E am S M H hPR.mm hI hMR hMI  ) 0 (lw_V q848 q849 q850 q48 q851) (by decide +kernel) ⟨⟨Nat.le_of_ble_eq_true rfl, Nat.le_of_ble_eq_true rfl⟩, by show cc_ + 24 + 0 ≤ 1200384; omega, by show sl_ + 970 + 0 ≤ 5488810; omega⟩ rfl rfl hl.1 (Nat.le_of_ble_eq_true rfl) dL_law_1139) hk hS (fun q h => by have := MP.N hPR.mm q h; omega) (MP.N hPR.mm) (fun z2 H locs hP_ hk hz_ ho2_ hS => ?_)
  obtain ⟨M1, hM1, t1, a1, q1⟩ := hP_
  have hPR2 := hPR.md hM1 ho2_
  have ht1 : 0 ≤ M1 0 0 ∧ M1 0 0 ≤ 3 := by rw [t1]; omega
  have hRL2 : RL S1 M1 := by by_cases e0 : erA S = 0; (rw [(h0 e0).1]; exact hRL.Q q1); (rw [h1 e0]; exact hRL.Q q1)
  refine g_istore (lv' := [(6, .int (iI z2)), (5, .int (iI (erA S))), (4, .int (iI ((i : Nat) : Int))), (0, .ref b), (1, .ref (ad 6 0)), (2, .ref (am 0)), (3, .ref ob)]) X dL_law_1142 hl (by decide) rfl (fun ls hl => ?_)
  refine g_aload_n X dL_law_1144 rfl hl 5 rfl ?_
  refine g_pV X hk (As := []) (rest := []) rfl (MP.O hPR2.mm) (m_thrown l E am M1 H hPR2.mm) 0 (lw_V q683 q684 q685 q48 q686) (by decide +kernel) ⟨⟨Nat.le_of_ble_eq_true rfl, Nat.le_of_ble_eq_true rfl⟩, by show cc_ + 24 ≤ 1200384; omega, by show sl_ + 970 ≤ 5488810; omega⟩ rfl rfl hl.1 (Nat.le_of_ble_eq_true rfl) dL_law_1145 ?_
  refine g_iload X dL_law_1148 hl 1 rfl ?_
  refine g_icmp_eq X dL_law_1150 (tgt := 1155) (by decide) (by omega) (fun c1150 => ?_) (fun c1150 => ?_)
  · refine g_iload X dL_law_1155 hl 1 rfl ?_
    refine g_if_ne X dL_law_1157 (tgt := 1172) (by decide) (by omega) (fun c1157 => ?_) (fun c1157 => ?_)
    · refine g_goto X dL_law_1172 (tgt := 1506) (by decide) ?_
      refine W.widen (k := cc_ + 100) (n := sl_ + 5000) (by omega) (by omega) ?_
      exact K ad1 S1 M1 og1 H locs ls hk hS hPR2 hRL2 ead (lv_sub hl [2, 3, 4, 5, 6] rfl)
    · refine g_aload_n X dL_law_1160 rfl hl 6 rfl ?_
      refine g_iconst X dL_law_1161 ?_
      have e0 : erA S = 0 := by omega
      refine g_lald X hk hPR2.oo (j := 0) rfl (by decide) dL_law_1162 ?_
      refine g_iload X dL_law_1163 hl 0 rfl ?_
      refine lv_i2l X.1.1 X.1.2.1 dL_law_1165 (v := lI z2) rfl ?_
      refine g_lcmpE X (by rw [(h0 e0).2, a1 e0]) dL_law_1166 ?_
      refine g_if_eq X dL_law_1167 (tgt := 1172) (by decide) (by omega) (fun c1167 => ?_) (fun c1167 => ?_)
      · refine g_goto X dL_law_1172 (tgt := 1506) (by decide) ?_
        refine W.widen (k := cc_ + 100) (n := sl_ + 5000) (by omega) (by omega) ?_
        exact K ad1 S1 M1 og1 H locs ls hk hS hPR2 hRL2 ead (lv_sub hl [2, 3, 4, 5, 6] rfl)
      · exact absurd rfl c1167
  · exact absurd (t1) c1150
set_option maxHeartbeats 4000000 in
theorem lc_16 {P_ : Program} {e_ : Env} {s : State} {M_ : MethodId} {bl : List Frame} {mt_ : Method} {c_ : Code} (l : Launch) (hst : l.stackTraces = false) {E : EP} {b L : Nat} {xs : Nat → Int32} (X : gX P_ s M_ mt_ c_ cL_law 7 ([.ref b] : List Value).toArray RX0 (some .boolean)) (hX : va_X b L xs s s.heap) (hbl : b < s.heap.size) (hL : L ≤ 384) (hE : eN E = s.heap.size) {Q : State → Prop} (ad : Nat → Nat → Nat) (S : GS) (am : Nat → Nat) (M : MS) (ob : Nat) (og : Nat → Int64) (H : Heap) (locs : List Loc) (ls : Array Slot) (cc_ sl_ i : Nat) (hR : cc_ + 100 ≤ 1200384 ∧ sl_ + 5000 ≤ 5488810) (hi : i + 5 < L) (hk : kk E s H) (hS : va_S (nA s.heap) s.heap H locs) (hPR : PR E ad S am M ob og H) (hRL : RL S M) (hl : lv_has ls 7 [(4, .int (iI ((i : Nat) : Int))), (0, .ref b), (1, .ref (ad 6 0)), (2, .ref (am 0)), (3, .ref ob)])
    (K : ∀ (ad1 : Nat → Nat → Nat) (S1 : GS) (M1 : MS) (og1 : Nat → Int64) (H1 : Heap) (locs1 : List Loc) (ls1 : Array Slot), kk E s H1 → va_S (nA s.heap) s.heap H1 locs1 → PR E ad1 S1 am M1 ob og1 H1 → RL S1 M1 → ad1 6 0 = ad 6 0 → lv_has ls1 7 [(4, .int (iI ((i : Nat) : Int))), (0, .ref b), (1, .ref (ad 6 0)), (2, .ref (am 0)), (3, .ref ob)] → W P_ l e_ room_1 s M_ ([.ref b] : List Value).toArray bl mt_ c_ H1 locs1 (cc_ + 100) (sl_ + 5000) Q (F0 M_ 1506 ls1 [])) : W P_ l e_ room_1 s M_ ([.ref b] : List Value).toArray bl mt_ c_ H locs cc_ sl_ Q (F0 M_ 1175 ls []) := by
  obtain ⟨y1, ey1⟩ : ∃ y : Int, y = (xs (i + 1)).toInt := ⟨_, rfl⟩
  have hy1 : -2147483648 ≤ y1 ∧ y1 ≤ 2147483647 := by rw [ey1]; exact iI_rng _
  obtain ⟨hI, hMR, hMD, hMC, hMI, hid⟩ := id hRL
  have her : 0 ≤ erR S y1 ∧ erR S y1 ≤ 2 := by unfold erR; (repeat' split) <;> omega
  refine g_aload_n X dL_law_1175 rfl hl 2 rfl ?_
  refine g_aload_n X dL_law_1176 rfl hl 1 rfl ?_
  refine g_iload X dL_law_1177 hl 0 rfl ?_
  refine g_iconst X dL_law_1179 ?_
  refine g_iadd X dL_law_1180 ?_
  refine g_sld X hX hbl hS (v := y1) (j := i + 1) (by omega) (by omega) ey1.symm dL_law_1181 ?_
  refine g_aload_n X dL_law_1182 rfl hl 4 rfl ?_
  have hkN := hk.N
  refine g_wrun X hk hS (As := [.ref (ad 6 0), .int (iI y1), .ref ob]) (rest := []) (w_run l E hst ad S ob og y1 M H hPR.pp hI hy1 hRL hPR.oo hPR.aa hPR.nn) 3 (lw_SW q516 q517 q45 q518) (by decide +kernel) ⟨⟨Nat.le_of_ble_eq_true rfl, Nat.le_of_ble_eq_true rfl⟩, by show cc_ + 8 ≤ 1200384; omega, by show sl_ + 40 ≤ 5488810; omega⟩ rfl rfl hl.1 (Nat.le_of_ble_eq_true rfl) dL_law_1183 (fun q h => by have := hPR.oWn hkN q h; omega) (hPR.oWn hkN) (fun z H locs hw hk hz_ ho_ hS => ?_)
  obtain ⟨hz0, ad1, S1, og1, hPR, ead, h0, h1⟩ := hPR.wr hw ho_
  subst hz0
  refine g_istore (lv' := [(5, .int (iI (erR S y1))), (4, .int (iI ((i : Nat) : Int))), (0, .ref b), (1, .ref (ad 6 0)), (2, .ref (am 0)), (3, .ref ob)]) X dL_law_1186 hl (by decide) rfl (fun ls hl => ?_)
  refine g_aload_n X dL_law_1188 rfl hl 4 rfl ?_
  refine g_aload_n X dL_law_1189 rfl hl 2 rfl ?_
  refine g_iload X dL_law_1190 hl 1 rfl ?_
  refine g_iconst X dL_law_1192 ?_
  refine g_iadd X dL_law_1193 ?_
  refine g_sld X hX hbl hS (v := y1) (j := i + 1) (by omega) (by omega) ey1.symm dL_law_1194 ?_
  refine g_calli (g_runV X hk (As := [.int (iI y1)]) (rest := []) rfl (MP.O hPR.mm) (m_run l E am S M H hPR.mm hI hMR hMI hMD hMC y1 hy1) 1 (lw_V q852 q853 q854 q48 q855) (by decide +kernel) ⟨⟨Nat.le_of_ble_eq_true rfl, Nat.le_of_ble_eq_true rfl⟩, by show cc_ + 8 + 0 ≤ 1200384; omega, by show sl_ + 40 + 0 ≤ 5488810; omega⟩ rfl rfl hl.1 (Nat.le_of_ble_eq_true rfl) dL_law_1195) hk hS (fun q h => by have := MP.N hPR.mm q h; omega) (MP.N hPR.mm) (fun z2 H locs hP_ hk hz_ ho2_ hS => ?_)
  obtain ⟨M1, hM1, t1, a0, b1⟩ := hP_
  have a1 := fun e0 : erR S y1 = 0 => (a0 e0).1
  have hPR2 := hPR.md hM1 ho2_
  have ht1 : 0 ≤ M1 0 0 ∧ M1 0 0 ≤ 3 := by rw [t1]; omega
  have hRL2 : RL S1 M1 := by by_cases e0 : erR S y1 = 0; (rw [(h0 e0).1]; exact L_run hRL (a0 e0).2); (rw [h1 e0]; exact hRL.Q (b1 e0))
  refine g_istore (lv' := [(6, .int (iI z2)), (5, .int (iI (erR S y1))), (4, .int (iI ((i : Nat) : Int))), (0, .ref b), (1, .ref (ad 6 0)), (2, .ref (am 0)), (3, .ref ob)]) X dL_law_1198 hl (by decide) rfl (fun ls hl => ?_)
  refine g_aload_n X dL_law_1200 rfl hl 5 rfl ?_
  refine g_pV X hk (As := []) (rest := []) rfl (MP.O hPR2.mm) (m_thrown l E am M1 H hPR2.mm) 0 (lw_V q683 q684 q685 q48 q686) (by decide +kernel) ⟨⟨Nat.le_of_ble_eq_true rfl, Nat.le_of_ble_eq_true rfl⟩, by show cc_ + 8 ≤ 1200384; omega, by show sl_ + 40 ≤ 5488810; omega⟩ rfl rfl hl.1 (Nat.le_of_ble_eq_true rfl) dL_law_1201 ?_
  refine g_iload X dL_law_1204 hl 1 rfl ?_
  refine g_icmp_eq X dL_law_1206 (tgt := 1211) (by decide) (by omega) (fun c1206 => ?_) (fun c1206 => ?_)
  · refine g_iload X dL_law_1211 hl 1 rfl ?_
    refine g_if_ne X dL_law_1213 (tgt := 1228) (by decide) (by omega) (fun c1213 => ?_) (fun c1213 => ?_)
    · refine g_goto X dL_law_1228 (tgt := 1506) (by decide) ?_
      refine W.widen (k := cc_ + 100) (n := sl_ + 5000) (by omega) (by omega) ?_
      exact K ad1 S1 M1 og1 H locs ls hk hS hPR2 hRL2 ead (lv_sub hl [2, 3, 4, 5, 6] rfl)
    · refine g_aload_n X dL_law_1216 rfl hl 6 rfl ?_
      refine g_iconst X dL_law_1217 ?_
      have e0 : erR S y1 = 0 := by omega
      refine g_lald X hk hPR2.oo (j := 0) rfl (by decide) dL_law_1218 ?_
      refine g_iload X dL_law_1219 hl 0 rfl ?_
      refine lv_i2l X.1.1 X.1.2.1 dL_law_1221 (v := lI z2) rfl ?_
      refine g_lcmpE X (by rw [(h0 e0).2, a1 e0]) dL_law_1222 ?_
      refine g_if_eq X dL_law_1223 (tgt := 1228) (by decide) (by omega) (fun c1223 => ?_) (fun c1223 => ?_)
      · refine g_goto X dL_law_1228 (tgt := 1506) (by decide) ?_
        refine W.widen (k := cc_ + 100) (n := sl_ + 5000) (by omega) (by omega) ?_
        exact K ad1 S1 M1 og1 H locs ls hk hS hPR2 hRL2 ead (lv_sub hl [2, 3, 4, 5, 6] rfl)
      · exact absurd rfl c1223
  · exact absurd (t1) c1206
set_option maxHeartbeats 4000000 in
theorem lc_17 {P_ : Program} {e_ : Env} {s : State} {M_ : MethodId} {bl : List Frame} {mt_ : Method} {c_ : Code} (l : Launch) (hst : l.stackTraces = false) {E : EP} {b L : Nat} {xs : Nat → Int32} (X : gX P_ s M_ mt_ c_ cL_law 7 ([.ref b] : List Value).toArray RX0 (some .boolean)) (hX : va_X b L xs s s.heap) (hbl : b < s.heap.size) (hL : L ≤ 384) (hE : eN E = s.heap.size) {Q : State → Prop} (ad : Nat → Nat → Nat) (S : GS) (am : Nat → Nat) (M : MS) (ob : Nat) (og : Nat → Int64) (H : Heap) (locs : List Loc) (ls : Array Slot) (cc_ sl_ i : Nat) (hR : cc_ + 100 ≤ 1200384 ∧ sl_ + 5000 ≤ 5488810) (hi : i + 5 < L) (hk : kk E s H) (hS : va_S (nA s.heap) s.heap H locs) (hPR : PR E ad S am M ob og H) (hRL : RL S M) (hl : lv_has ls 7 [(4, .int (iI ((i : Nat) : Int))), (0, .ref b), (1, .ref (ad 6 0)), (2, .ref (am 0)), (3, .ref ob)])
    (K : ∀ (ad1 : Nat → Nat → Nat) (S1 : GS) (M1 : MS) (og1 : Nat → Int64) (H1 : Heap) (locs1 : List Loc) (ls1 : Array Slot), kk E s H1 → va_S (nA s.heap) s.heap H1 locs1 → PR E ad1 S1 am M1 ob og1 H1 → RL S1 M1 → ad1 6 0 = ad 6 0 → lv_has ls1 7 [(4, .int (iI ((i : Nat) : Int))), (0, .ref b), (1, .ref (ad 6 0)), (2, .ref (am 0)), (3, .ref ob)] → W P_ l e_ room_1 s M_ ([.ref b] : List Value).toArray bl mt_ c_ H1 locs1 (cc_ + 100) (sl_ + 5000) Q (F0 M_ 1506 ls1 [])) : W P_ l e_ room_1 s M_ ([.ref b] : List Value).toArray bl mt_ c_ H locs cc_ sl_ Q (F0 M_ 1231 ls []) := by
  obtain ⟨y1, ey1⟩ : ∃ y : Int, y = (xs (i + 1)).toInt := ⟨_, rfl⟩
  have hy1 : -2147483648 ≤ y1 ∧ y1 ≤ 2147483647 := by rw [ey1]; exact iI_rng _
  obtain ⟨y2, ey2⟩ : ∃ y : Int, y = (xs (i + 2)).toInt := ⟨_, rfl⟩
  have hy2 : -2147483648 ≤ y2 ∧ y2 ≤ 2147483647 := by rw [ey2]; exact iI_rng _
  obtain ⟨hI, hMR, hMD, hMC, hMI, hid⟩ := id hRL
  have her : 0 ≤ erU S y1 y2 ∧ erU S y1 y2 ≤ 2 := by unfold erU; (repeat' split) <;> omega
  refine g_aload_n X dL_law_1231 rfl hl 2 rfl ?_
  refine g_aload_n X dL_law_1232 rfl hl 1 rfl ?_
  refine g_iload X dL_law_1233 hl 0 rfl ?_
  refine g_iconst X dL_law_1235 ?_
  refine g_iadd X dL_law_1236 ?_
  refine g_sld X hX hbl hS (v := y1) (j := i + 1) (by omega) (by omega) ey1.symm dL_law_1237 ?_
  refine g_aload_n X dL_law_1238 rfl hl 1 rfl ?_
  refine g_iload X dL_law_1239 hl 0 rfl ?_
  refine g_iconst X dL_law_1241 ?_
  refine g_iadd X dL_law_1242 ?_
  refine g_sld X hX hbl hS (v := y2) (j := i + 2) (by omega) (by omega) ey2.symm dL_law_1243 ?_
  refine g_aload_n X dL_law_1244 rfl hl 4 rfl ?_
  have hkN := hk.N
  refine g_wrun X hk hS (As := [.ref (ad 6 0), .int (iI y1), .int (iI y2), .ref ob]) (rest := []) (w_callBus l E hst ad S ob og y1 y2 H hPR.pp hI hy1 hy2 hPR.oo hPR.aa hPR.nn) 4 (lw_SW q546 q547 q45 q548) (by decide +kernel) ⟨⟨Nat.le_of_ble_eq_true rfl, Nat.le_of_ble_eq_true rfl⟩, by show cc_ + 6 ≤ 1200384; omega, by show sl_ + 26 ≤ 5488810; omega⟩ rfl rfl hl.1 (Nat.le_of_ble_eq_true rfl) dL_law_1245 (fun q h => by have := hPR.oWn hkN q h; omega) (hPR.oWn hkN) (fun z H locs hw hk hz_ ho_ hS => ?_)
  obtain ⟨hz0, ad1, S1, og1, hPR, ead, h0, h1⟩ := hPR.wr hw ho_
  subst hz0
  refine g_istore (lv' := [(5, .int (iI (erU S y1 y2))), (4, .int (iI ((i : Nat) : Int))), (0, .ref b), (1, .ref (ad 6 0)), (2, .ref (am 0)), (3, .ref ob)]) X dL_law_1248 hl (by decide) rfl (fun ls hl => ?_)
  refine g_aload_n X dL_law_1250 rfl hl 4 rfl ?_
  refine g_aload_n X dL_law_1251 rfl hl 2 rfl ?_
  refine g_iload X dL_law_1252 hl 1 rfl ?_
  refine g_iconst X dL_law_1254 ?_
  refine g_iadd X dL_law_1255 ?_
  refine g_sld X hX hbl hS (v := y1) (j := i + 1) (by omega) (by omega) ey1.symm dL_law_1256 ?_
  refine g_aload_n X dL_law_1257 rfl hl 2 rfl ?_
  refine g_iload X dL_law_1258 hl 1 rfl ?_
  refine g_iconst X dL_law_1260 ?_
  refine g_iadd X dL_law_1261 ?_
  refine g_sld X hX hbl hS (v := y2) (j := i + 2) (by omega) (by omega) ey2.symm dL_law_1262 ?_
  refine g_calli (g_runV X hk (As := [.int (iI y1), .int (iI y2)]) (rest := []) rfl (MP.O hPR.mm) (m_callBus l E am S M H hPR.mm hI hMR hMI hMC y1 y2 hy1 hy2) 2 (lw_V q872 q873 q874 q48 q875) (by decide +kernel) ⟨⟨Nat.le_of_ble_eq_true rfl, Nat.le_of_ble_eq_true rfl⟩, by show cc_ + 6 + 0 ≤ 1200384; omega, by show sl_ + 26 + 0 ≤ 5488810; omega⟩ rfl rfl hl.1 (Nat.le_of_ble_eq_true rfl) dL_law_1263) hk hS (fun q h => by have := MP.N hPR.mm q h; omega) (MP.N hPR.mm) (fun z2 H locs hP_ hk hz_ ho2_ hS => ?_)
  obtain ⟨M1, hM1, t1, a0, b1⟩ := hP_
  have a1 := fun e0 : erU S y1 y2 = 0 => (a0 e0).1
  have hPR2 := hPR.md hM1 ho2_
  have ht1 : 0 ≤ M1 0 0 ∧ M1 0 0 ≤ 3 := by rw [t1]; omega
  have hRL2 : RL S1 M1 := by by_cases e0 : erU S y1 y2 = 0; (rw [(h0 e0).1]; exact (by obtain ⟨Mh, q, hm⟩ := (a0 e0).2; exact L_callBus hRL e0 q hm)); (rw [h1 e0]; exact hRL.Q (b1 e0))
  refine g_istore (lv' := [(6, .int (iI z2)), (5, .int (iI (erU S y1 y2))), (4, .int (iI ((i : Nat) : Int))), (0, .ref b), (1, .ref (ad 6 0)), (2, .ref (am 0)), (3, .ref ob)]) X dL_law_1266 hl (by decide) rfl (fun ls hl => ?_)
  refine g_aload_n X dL_law_1268 rfl hl 5 rfl ?_
  refine g_pV X hk (As := []) (rest := []) rfl (MP.O hPR2.mm) (m_thrown l E am M1 H hPR2.mm) 0 (lw_V q683 q684 q685 q48 q686) (by decide +kernel) ⟨⟨Nat.le_of_ble_eq_true rfl, Nat.le_of_ble_eq_true rfl⟩, by show cc_ + 6 ≤ 1200384; omega, by show sl_ + 26 ≤ 5488810; omega⟩ rfl rfl hl.1 (Nat.le_of_ble_eq_true rfl) dL_law_1269 ?_
  refine g_iload X dL_law_1272 hl 1 rfl ?_
  refine g_icmp_eq X dL_law_1274 (tgt := 1279) (by decide) (by omega) (fun c1274 => ?_) (fun c1274 => ?_)
  · refine g_iload X dL_law_1279 hl 1 rfl ?_
    refine g_if_ne X dL_law_1281 (tgt := 1296) (by decide) (by omega) (fun c1281 => ?_) (fun c1281 => ?_)
    · refine g_goto X dL_law_1296 (tgt := 1506) (by decide) ?_
      refine W.widen (k := cc_ + 100) (n := sl_ + 5000) (by omega) (by omega) ?_
      exact K ad1 S1 M1 og1 H locs ls hk hS hPR2 hRL2 ead (lv_sub hl [2, 3, 4, 5, 6] rfl)
    · refine g_aload_n X dL_law_1284 rfl hl 6 rfl ?_
      refine g_iconst X dL_law_1285 ?_
      have e0 : erU S y1 y2 = 0 := by omega
      refine g_lald X hk hPR2.oo (j := 0) rfl (by decide) dL_law_1286 ?_
      refine g_iload X dL_law_1287 hl 0 rfl ?_
      refine lv_i2l X.1.1 X.1.2.1 dL_law_1289 (v := lI z2) rfl ?_
      refine g_lcmpE X (by rw [(h0 e0).2, a1 e0]) dL_law_1290 ?_
      refine g_if_eq X dL_law_1291 (tgt := 1296) (by decide) (by omega) (fun c1291 => ?_) (fun c1291 => ?_)
      · refine g_goto X dL_law_1296 (tgt := 1506) (by decide) ?_
        refine W.widen (k := cc_ + 100) (n := sl_ + 5000) (by omega) (by omega) ?_
        exact K ad1 S1 M1 og1 H locs ls hk hS hPR2 hRL2 ead (lv_sub hl [2, 3, 4, 5, 6] rfl)
      · exact absurd rfl c1291
  · exact absurd (t1) c1274
set_option maxHeartbeats 4000000 in
theorem lc_18 {P_ : Program} {e_ : Env} {s : State} {M_ : MethodId} {bl : List Frame} {mt_ : Method} {c_ : Code} (l : Launch) (hst : l.stackTraces = false) {E : EP} {b L : Nat} {xs : Nat → Int32} (X : gX P_ s M_ mt_ c_ cL_law 7 ([.ref b] : List Value).toArray RX0 (some .boolean)) (hX : va_X b L xs s s.heap) (hbl : b < s.heap.size) (hL : L ≤ 384) (hE : eN E = s.heap.size) {Q : State → Prop} (ad : Nat → Nat → Nat) (S : GS) (am : Nat → Nat) (M : MS) (ob : Nat) (og : Nat → Int64) (H : Heap) (locs : List Loc) (ls : Array Slot) (cc_ sl_ i : Nat) (hR : cc_ + 100 ≤ 1200384 ∧ sl_ + 5000 ≤ 5488810) (hi : i + 5 < L) (hk : kk E s H) (hS : va_S (nA s.heap) s.heap H locs) (hPR : PR E ad S am M ob og H) (hRL : RL S M) (hl : lv_has ls 7 [(4, .int (iI ((i : Nat) : Int))), (0, .ref b), (1, .ref (ad 6 0)), (2, .ref (am 0)), (3, .ref ob)])
    (K : ∀ (ad1 : Nat → Nat → Nat) (S1 : GS) (M1 : MS) (og1 : Nat → Int64) (H1 : Heap) (locs1 : List Loc) (ls1 : Array Slot), kk E s H1 → va_S (nA s.heap) s.heap H1 locs1 → PR E ad1 S1 am M1 ob og1 H1 → RL S1 M1 → ad1 6 0 = ad 6 0 → lv_has ls1 7 [(4, .int (iI ((i : Nat) : Int))), (0, .ref b), (1, .ref (ad 6 0)), (2, .ref (am 0)), (3, .ref ob)] → W P_ l e_ room_1 s M_ ([.ref b] : List Value).toArray bl mt_ c_ H1 locs1 (cc_ + 100) (sl_ + 5000) Q (F0 M_ 1506 ls1 [])) : W P_ l e_ room_1 s M_ ([.ref b] : List Value).toArray bl mt_ c_ H locs cc_ sl_ Q (F0 M_ 1299 ls []) := by
  obtain ⟨hI, hMR, hMD, hMC, hMI, hid⟩ := id hRL
  refine g_aload_n X dL_law_1299 rfl hl 2 rfl ?_
  refine g_pV X hk (As := []) (rest := []) rfl (GP.X hPR.pp) (p_clock l E ad S H hPR.pp) 0 (lw_V q165 q166 q167 q46 q168) (by decide +kernel) ⟨⟨Nat.le_of_ble_eq_true rfl, Nat.le_of_ble_eq_true rfl⟩, by show cc_ ≤ 1200384; omega, by show sl_ ≤ 5488810; omega⟩ rfl rfl hl.1 (Nat.le_of_ble_eq_true rfl) dL_law_1300 ?_
  refine g_aload_n X dL_law_1303 rfl hl 3 rfl ?_
  refine g_calli (g_runV X hk (As := []) (rest := [.int (iI (gNow S))]) rfl (MP.O hPR.mm) (m_clock l E am S M H hPR.mm hI hMR hMI) 0 (lw_V q895 q896 q897 q48 q898) (by decide +kernel) ⟨⟨Nat.le_of_ble_eq_true rfl, Nat.le_of_ble_eq_true rfl⟩, by show cc_ + 0 + 0 ≤ 1200384; omega, by show sl_ + 0 + 0 ≤ 5488810; omega⟩ rfl rfl hl.1 (Nat.le_of_ble_eq_true rfl) dL_law_1304) hk hS (fun q h => by have := MP.N hPR.mm q h; omega) (MP.N hPR.mm) (fun z2 H locs hP_ hk hz_ ho2_ hS => ?_)
  obtain ⟨a1, M1, hM1, q1⟩ := hP_
  have hPR2 := hPR.md hM1 ho2_
  have hRL2 : RL S M1 := hRL.Q q1
  subst a1
  refine g_icmp_same X dL_law_1307 (tgt := 1506) (by decide) ?_
  refine W.widen (k := cc_ + 100) (n := sl_ + 5000) (by omega) (by omega) ?_
  exact K ad S M1 og H locs ls hk hS hPR2 hRL2 rfl (lv_sub hl [0, 1, 2, 3, 4] rfl)
set_option maxHeartbeats 4000000 in
theorem lc_19 {P_ : Program} {e_ : Env} {s : State} {M_ : MethodId} {bl : List Frame} {mt_ : Method} {c_ : Code} (l : Launch) (hst : l.stackTraces = false) {E : EP} {b L : Nat} {xs : Nat → Int32} (X : gX P_ s M_ mt_ c_ cL_law 7 ([.ref b] : List Value).toArray RX0 (some .boolean)) (hX : va_X b L xs s s.heap) (hbl : b < s.heap.size) (hL : L ≤ 384) (hE : eN E = s.heap.size) {Q : State → Prop} (ad : Nat → Nat → Nat) (S : GS) (am : Nat → Nat) (M : MS) (ob : Nat) (og : Nat → Int64) (H : Heap) (locs : List Loc) (ls : Array Slot) (cc_ sl_ i : Nat) (hR : cc_ + 100 ≤ 1200384 ∧ sl_ + 5000 ≤ 5488810) (hi : i + 5 < L) (hk : kk E s H) (hS : va_S (nA s.heap) s.heap H locs) (hPR : PR E ad S am M ob og H) (hRL : RL S M) (hl : lv_has ls 7 [(4, .int (iI ((i : Nat) : Int))), (0, .ref b), (1, .ref (ad 6 0)), (2, .ref (am 0)), (3, .ref ob)])
    (K : ∀ (ad1 : Nat → Nat → Nat) (S1 : GS) (M1 : MS) (og1 : Nat → Int64) (H1 : Heap) (locs1 : List Loc) (ls1 : Array Slot), kk E s H1 → va_S (nA s.heap) s.heap H1 locs1 → PR E ad1 S1 am M1 ob og1 H1 → RL S1 M1 → ad1 6 0 = ad 6 0 → lv_has ls1 7 [(4, .int (iI ((i : Nat) : Int))), (0, .ref b), (1, .ref (ad 6 0)), (2, .ref (am 0)), (3, .ref ob)] → W P_ l e_ room_1 s M_ ([.ref b] : List Value).toArray bl mt_ c_ H1 locs1 (cc_ + 100) (sl_ + 5000) Q (F0 M_ 1506 ls1 [])) : W P_ l e_ room_1 s M_ ([.ref b] : List Value).toArray bl mt_ c_ H locs cc_ sl_ Q (F0 M_ 1312 ls []) := by
  obtain ⟨y1, ey1⟩ : ∃ y : Int, y = (xs (i + 1)).toInt := ⟨_, rfl⟩
  have hy1 : -2147483648 ≤ y1 ∧ y1 ≤ 2147483647 := by rw [ey1]; exact iI_rng _
  obtain ⟨hI, hMR, hMD, hMC, hMI, hid⟩ := id hRL
  have her : 0 ≤ erN S y1 ∧ erN S y1 ≤ 2 := by unfold erN; (repeat' split) <;> omega
  refine g_aload_n X dL_law_1312 rfl hl 2 rfl ?_
  refine g_aload_n X dL_law_1313 rfl hl 1 rfl ?_
  refine g_iload X dL_law_1314 hl 0 rfl ?_
  refine g_iconst X dL_law_1316 ?_
  refine g_iadd X dL_law_1317 ?_
  refine g_sld X hX hbl hS (v := y1) (j := i + 1) (by omega) (by omega) ey1.symm dL_law_1318 ?_
  refine g_aload_n X dL_law_1319 rfl hl 4 rfl ?_
  have hkN := hk.N
  refine g_wrun X hk hS (As := [.ref (ad 6 0), .int (iI y1), .ref ob]) (rest := []) (w_phaseNow l E hst ad S ob og y1 H hPR.pp hI hy1 hPR.oo hPR.aa hPR.nn) 3 (lw_SW q565 q566 q45 q567) (by decide +kernel) ⟨⟨Nat.le_of_ble_eq_true rfl, Nat.le_of_ble_eq_true rfl⟩, by show cc_ + 3 ≤ 1200384; omega, by show sl_ + 16 ≤ 5488810; omega⟩ rfl rfl hl.1 (Nat.le_of_ble_eq_true rfl) dL_law_1320 (fun q h => by have := hPR.oWn hkN q h; omega) (hPR.oWn hkN) (fun z H locs hw hk hz_ ho_ hS => ?_)
  obtain ⟨hz0, ad1, S1, og1, hPR, ead, h0, h1⟩ := hPR.wr hw ho_
  subst hz0
  refine g_istore (lv' := [(5, .int (iI (erN S y1))), (4, .int (iI ((i : Nat) : Int))), (0, .ref b), (1, .ref (ad 6 0)), (2, .ref (am 0)), (3, .ref ob)]) X dL_law_1323 hl (by decide) rfl (fun ls hl => ?_)
  refine g_aload_n X dL_law_1325 rfl hl 4 rfl ?_
  refine g_aload_n X dL_law_1326 rfl hl 2 rfl ?_
  refine g_iload X dL_law_1327 hl 1 rfl ?_
  refine g_iconst X dL_law_1329 ?_
  refine g_iadd X dL_law_1330 ?_
  refine g_sld X hX hbl hS (v := y1) (j := i + 1) (by omega) (by omega) ey1.symm dL_law_1331 ?_
  refine g_calli (g_runV X hk (As := [.int (iI y1)]) (rest := []) rfl (MP.O hPR.mm) (m_phaseNow l E am S M H hPR.mm hI hMR hMI y1 hy1) 1 (lw_V q899 q900 q901 q48 q902) (by decide +kernel) ⟨⟨Nat.le_of_ble_eq_true rfl, Nat.le_of_ble_eq_true rfl⟩, by show cc_ + 3 + 0 ≤ 1200384; omega, by show sl_ + 16 + 0 ≤ 5488810; omega⟩ rfl rfl hl.1 (Nat.le_of_ble_eq_true rfl) dL_law_1332) hk hS (fun q h => by have := MP.N hPR.mm q h; omega) (MP.N hPR.mm) (fun z2 H locs hP_ hk hz_ ho2_ hS => ?_)
  obtain ⟨M1, hM1, t1, a1, q1⟩ := hP_
  have hPR2 := hPR.md hM1 ho2_
  have ht1 : 0 ≤ M1 0 0 ∧ M1 0 0 ≤ 3 := by rw [t1]; omega
  have a1 := fun e0 : erN S y1 = 0 => (a1 e0).trans (A_phaseNow hRL e0)
  have hRL2 : RL S1 M1 := by by_cases e0 : erN S y1 = 0; (rw [(h0 e0).1]; exact hRL.Q q1); (rw [h1 e0]; exact hRL.Q q1)
  refine g_istore (lv' := [(6, .int (iI z2)), (5, .int (iI (erN S y1))), (4, .int (iI ((i : Nat) : Int))), (0, .ref b), (1, .ref (ad 6 0)), (2, .ref (am 0)), (3, .ref ob)]) X dL_law_1335 hl (by decide) rfl (fun ls hl => ?_)
  refine g_aload_n X dL_law_1337 rfl hl 5 rfl ?_
  refine g_pV X hk (As := []) (rest := []) rfl (MP.O hPR2.mm) (m_thrown l E am M1 H hPR2.mm) 0 (lw_V q683 q684 q685 q48 q686) (by decide +kernel) ⟨⟨Nat.le_of_ble_eq_true rfl, Nat.le_of_ble_eq_true rfl⟩, by show cc_ + 3 ≤ 1200384; omega, by show sl_ + 16 ≤ 5488810; omega⟩ rfl rfl hl.1 (Nat.le_of_ble_eq_true rfl) dL_law_1338 ?_
  refine g_iload X dL_law_1341 hl 1 rfl ?_
  refine g_icmp_eq X dL_law_1343 (tgt := 1348) (by decide) (by omega) (fun c1343 => ?_) (fun c1343 => ?_)
  · refine g_iload X dL_law_1348 hl 1 rfl ?_
    refine g_if_ne X dL_law_1350 (tgt := 1365) (by decide) (by omega) (fun c1350 => ?_) (fun c1350 => ?_)
    · refine g_goto X dL_law_1365 (tgt := 1506) (by decide) ?_
      refine W.widen (k := cc_ + 100) (n := sl_ + 5000) (by omega) (by omega) ?_
      exact K ad1 S1 M1 og1 H locs ls hk hS hPR2 hRL2 ead (lv_sub hl [2, 3, 4, 5, 6] rfl)
    · refine g_aload_n X dL_law_1353 rfl hl 6 rfl ?_
      refine g_iconst X dL_law_1354 ?_
      have e0 : erN S y1 = 0 := by omega
      refine g_lald X hk hPR2.oo (j := 0) rfl (by decide) dL_law_1355 ?_
      refine g_iload X dL_law_1356 hl 0 rfl ?_
      refine lv_i2l X.1.1 X.1.2.1 dL_law_1358 (v := lI z2) rfl ?_
      refine g_lcmpE X (by rw [(h0 e0).2, a1 e0]) dL_law_1359 ?_
      refine g_if_eq X dL_law_1360 (tgt := 1365) (by decide) (by omega) (fun c1360 => ?_) (fun c1360 => ?_)
      · refine g_goto X dL_law_1365 (tgt := 1506) (by decide) ?_
        refine W.widen (k := cc_ + 100) (n := sl_ + 5000) (by omega) (by omega) ?_
        exact K ad1 S1 M1 og1 H locs ls hk hS hPR2 hRL2 ead (lv_sub hl [2, 3, 4, 5, 6] rfl)
      · exact absurd rfl c1360
  · exact absurd (t1) c1343
set_option maxHeartbeats 4000000 in
theorem lc_20 {P_ : Program} {e_ : Env} {s : State} {M_ : MethodId} {bl : List Frame} {mt_ : Method} {c_ : Code} (l : Launch) (hst : l.stackTraces = false) {E : EP} {b L : Nat} {xs : Nat → Int32} (X : gX P_ s M_ mt_ c_ cL_law 7 ([.ref b] : List Value).toArray RX0 (some .boolean)) (hX : va_X b L xs s s.heap) (hbl : b < s.heap.size) (hL : L ≤ 384) (hE : eN E = s.heap.size) {Q : State → Prop} (ad : Nat → Nat → Nat) (S : GS) (am : Nat → Nat) (M : MS) (ob : Nat) (og : Nat → Int64) (H : Heap) (locs : List Loc) (ls : Array Slot) (cc_ sl_ i : Nat) (hR : cc_ + 100 ≤ 1200384 ∧ sl_ + 5000 ≤ 5488810) (hi : i + 5 < L) (hk : kk E s H) (hS : va_S (nA s.heap) s.heap H locs) (hPR : PR E ad S am M ob og H) (hRL : RL S M) (hl : lv_has ls 7 [(4, .int (iI ((i : Nat) : Int))), (0, .ref b), (1, .ref (ad 6 0)), (2, .ref (am 0)), (3, .ref ob)])
    (K : ∀ (ad1 : Nat → Nat → Nat) (S1 : GS) (M1 : MS) (og1 : Nat → Int64) (H1 : Heap) (locs1 : List Loc) (ls1 : Array Slot), kk E s H1 → va_S (nA s.heap) s.heap H1 locs1 → PR E ad1 S1 am M1 ob og1 H1 → RL S1 M1 → ad1 6 0 = ad 6 0 → lv_has ls1 7 [(4, .int (iI ((i : Nat) : Int))), (0, .ref b), (1, .ref (ad 6 0)), (2, .ref (am 0)), (3, .ref ob)] → W P_ l e_ room_1 s M_ ([.ref b] : List Value).toArray bl mt_ c_ H1 locs1 (cc_ + 100) (sl_ + 5000) Q (F0 M_ 1506 ls1 [])) : W P_ l e_ room_1 s M_ ([.ref b] : List Value).toArray bl mt_ c_ H locs cc_ sl_ Q (F0 M_ 1368 ls []) := by
  obtain ⟨y1, ey1⟩ : ∃ y : Int, y = (xs (i + 1)).toInt := ⟨_, rfl⟩
  have hy1 : -2147483648 ≤ y1 ∧ y1 ≤ 2147483647 := by rw [ey1]; exact iI_rng _
  obtain ⟨hI, hMR, hMD, hMC, hMI, hid⟩ := id hRL
  have her : 0 ≤ erJ S y1 ∧ erJ S y1 ≤ 1 := by unfold erJ; (repeat' split) <;> omega
  refine g_aload_n X dL_law_1368 rfl hl 2 rfl ?_
  refine g_aload_n X dL_law_1369 rfl hl 1 rfl ?_
  refine g_iload X dL_law_1370 hl 0 rfl ?_
  refine g_iconst X dL_law_1372 ?_
  refine g_iadd X dL_law_1373 ?_
  refine g_sld X hX hbl hS (v := y1) (j := i + 1) (by omega) (by omega) ey1.symm dL_law_1374 ?_
  refine g_aload_n X dL_law_1375 rfl hl 4 rfl ?_
  have hkN := hk.N
  refine g_wrun X hk hS (As := [.ref (ad 6 0), .int (iI y1), .ref ob]) (rest := []) (w_queue l E hst ad S ob og y1 H hPR.pp hI hy1 hPR.oo hPR.aa hPR.nn) 3 (lw_SW q577 q578 q45 q579) (by decide +kernel) ⟨⟨Nat.le_of_ble_eq_true rfl, Nat.le_of_ble_eq_true rfl⟩, by show cc_ + 1 ≤ 1200384; omega, by show sl_ + 6 ≤ 5488810; omega⟩ rfl rfl hl.1 (Nat.le_of_ble_eq_true rfl) dL_law_1376 (fun q h => by have := hPR.oWn hkN q h; omega) (hPR.oWn hkN) (fun z H locs hw hk hz_ ho_ hS => ?_)
  obtain ⟨hz0, ad1, S1, og1, hPR, ead, h0, h1⟩ := hPR.wr hw ho_
  subst hz0
  refine g_istore (lv' := [(5, .int (iI (erJ S y1))), (4, .int (iI ((i : Nat) : Int))), (0, .ref b), (1, .ref (ad 6 0)), (2, .ref (am 0)), (3, .ref ob)]) X dL_law_1379 hl (by decide) rfl (fun ls hl => ?_)
  refine g_aload_n X dL_law_1381 rfl hl 4 rfl ?_
  refine g_aload_n X dL_law_1382 rfl hl 2 rfl ?_
  refine g_iload X dL_law_1383 hl 1 rfl ?_
  refine g_iconst X dL_law_1385 ?_
  refine g_iadd X dL_law_1386 ?_
  refine g_sld X hX hbl hS (v := y1) (j := i + 1) (by omega) (by omega) ey1.symm dL_law_1387 ?_
  refine g_calli (g_runV X hk (As := [.int (iI y1)]) (rest := []) rfl (MP.O hPR.mm) (m_queue l E am S M H hPR.mm hI hMR hMI y1 hy1) 1 (lw_V q903 q904 q905 q48 q906) (by decide +kernel) ⟨⟨Nat.le_of_ble_eq_true rfl, Nat.le_of_ble_eq_true rfl⟩, by show cc_ + 1 + 0 ≤ 1200384; omega, by show sl_ + 6 + 0 ≤ 5488810; omega⟩ rfl rfl hl.1 (Nat.le_of_ble_eq_true rfl) dL_law_1388) hk hS (fun q h => by have := MP.N hPR.mm q h; omega) (MP.N hPR.mm) (fun z2 H locs hP_ hk hz_ ho2_ hS => ?_)
  obtain ⟨M1, hM1, t1, a1, q1⟩ := hP_
  have hPR2 := hPR.md hM1 ho2_
  have ht1 : 0 ≤ M1 0 0 ∧ M1 0 0 ≤ 3 := by rw [t1]; omega
  have a1 := fun e0 : erJ S y1 = 0 => (a1 e0).trans (A_queue hRL e0)
  have hRL2 : RL S1 M1 := by by_cases e0 : erJ S y1 = 0; (rw [(h0 e0).1]; exact hRL.Q q1); (rw [h1 e0]; exact hRL.Q q1)
  refine g_istore (lv' := [(6, .int (iI z2)), (5, .int (iI (erJ S y1))), (4, .int (iI ((i : Nat) : Int))), (0, .ref b), (1, .ref (ad 6 0)), (2, .ref (am 0)), (3, .ref ob)]) X dL_law_1391 hl (by decide) rfl (fun ls hl => ?_)
  refine g_aload_n X dL_law_1393 rfl hl 5 rfl ?_
  refine g_pV X hk (As := []) (rest := []) rfl (MP.O hPR2.mm) (m_thrown l E am M1 H hPR2.mm) 0 (lw_V q683 q684 q685 q48 q686) (by decide +kernel) ⟨⟨Nat.le_of_ble_eq_true rfl, Nat.le_of_ble_eq_true rfl⟩, by show cc_ + 1 ≤ 1200384; omega, by show sl_ + 6 ≤ 5488810; omega⟩ rfl rfl hl.1 (Nat.le_of_ble_eq_true rfl) dL_law_1394 ?_
  refine g_iload X dL_law_1397 hl 1 rfl ?_
  refine g_icmp_eq X dL_law_1399 (tgt := 1404) (by decide) (by omega) (fun c1399 => ?_) (fun c1399 => ?_)
  · refine g_iload X dL_law_1404 hl 1 rfl ?_
    refine g_if_ne X dL_law_1406 (tgt := 1421) (by decide) (by omega) (fun c1406 => ?_) (fun c1406 => ?_)
    · refine g_goto X dL_law_1421 (tgt := 1506) (by decide) ?_
      refine W.widen (k := cc_ + 100) (n := sl_ + 5000) (by omega) (by omega) ?_
      exact K ad1 S1 M1 og1 H locs ls hk hS hPR2 hRL2 ead (lv_sub hl [2, 3, 4, 5, 6] rfl)
    · refine g_aload_n X dL_law_1409 rfl hl 6 rfl ?_
      refine g_iconst X dL_law_1410 ?_
      have e0 : erJ S y1 = 0 := by omega
      refine g_lald X hk hPR2.oo (j := 0) rfl (by decide) dL_law_1411 ?_
      refine g_iload X dL_law_1412 hl 0 rfl ?_
      refine lv_i2l X.1.1 X.1.2.1 dL_law_1414 (v := lI z2) rfl ?_
      refine g_lcmpE X (by rw [(h0 e0).2, a1 e0]) dL_law_1415 ?_
      refine g_if_eq X dL_law_1416 (tgt := 1421) (by decide) (by omega) (fun c1416 => ?_) (fun c1416 => ?_)
      · refine g_goto X dL_law_1421 (tgt := 1506) (by decide) ?_
        refine W.widen (k := cc_ + 100) (n := sl_ + 5000) (by omega) (by omega) ?_
        exact K ad1 S1 M1 og1 H locs ls hk hS hPR2 hRL2 ead (lv_sub hl [2, 3, 4, 5, 6] rfl)
      · exact absurd rfl c1416
  · exact absurd (t1) c1399
set_option maxHeartbeats 4000000 in
theorem lc_21 {P_ : Program} {e_ : Env} {s : State} {M_ : MethodId} {bl : List Frame} {mt_ : Method} {c_ : Code} (l : Launch) (hst : l.stackTraces = false) {E : EP} {b L : Nat} {xs : Nat → Int32} (X : gX P_ s M_ mt_ c_ cL_law 7 ([.ref b] : List Value).toArray RX0 (some .boolean)) (hX : va_X b L xs s s.heap) (hbl : b < s.heap.size) (hL : L ≤ 384) (hE : eN E = s.heap.size) {Q : State → Prop} (ad : Nat → Nat → Nat) (S : GS) (am : Nat → Nat) (M : MS) (ob : Nat) (og : Nat → Int64) (H : Heap) (locs : List Loc) (ls : Array Slot) (cc_ sl_ i : Nat) (hR : cc_ + 100 ≤ 1200384 ∧ sl_ + 5000 ≤ 5488810) (hi : i + 5 < L) (hk : kk E s H) (hS : va_S (nA s.heap) s.heap H locs) (hPR : PR E ad S am M ob og H) (hRL : RL S M) (hl : lv_has ls 7 [(4, .int (iI ((i : Nat) : Int))), (0, .ref b), (1, .ref (ad 6 0)), (2, .ref (am 0)), (3, .ref ob)])
    (K : ∀ (ad1 : Nat → Nat → Nat) (S1 : GS) (M1 : MS) (og1 : Nat → Int64) (H1 : Heap) (locs1 : List Loc) (ls1 : Array Slot), kk E s H1 → va_S (nA s.heap) s.heap H1 locs1 → PR E ad1 S1 am M1 ob og1 H1 → RL S1 M1 → ad1 6 0 = ad 6 0 → lv_has ls1 7 [(4, .int (iI ((i : Nat) : Int))), (0, .ref b), (1, .ref (ad 6 0)), (2, .ref (am 0)), (3, .ref ob)] → W P_ l e_ room_1 s M_ ([.ref b] : List Value).toArray bl mt_ c_ H1 locs1 (cc_ + 100) (sl_ + 5000) Q (F0 M_ 1506 ls1 [])) : W P_ l e_ room_1 s M_ ([.ref b] : List Value).toArray bl mt_ c_ H locs cc_ sl_ Q (F0 M_ 1424 ls []) := by
  obtain ⟨y1, ey1⟩ : ∃ y : Int, y = (xs (i + 1)).toInt := ⟨_, rfl⟩
  have hy1 : -2147483648 ≤ y1 ∧ y1 ≤ 2147483647 := by rw [ey1]; exact iI_rng _
  obtain ⟨hI, hMR, hMD, hMC, hMI, hid⟩ := id hRL
  have her : 0 ≤ erH S y1 ∧ erH S y1 ≤ 1 := by unfold erH; (repeat' split) <;> omega
  refine g_aload_n X dL_law_1424 rfl hl 2 rfl ?_
  refine g_aload_n X dL_law_1425 rfl hl 1 rfl ?_
  refine g_iload X dL_law_1426 hl 0 rfl ?_
  refine g_iconst X dL_law_1428 ?_
  refine g_iadd X dL_law_1429 ?_
  refine g_sld X hX hbl hS (v := y1) (j := i + 1) (by omega) (by omega) ey1.symm dL_law_1430 ?_
  refine g_aload_n X dL_law_1431 rfl hl 4 rfl ?_
  have hkN := hk.N
  refine g_wrun X hk hS (As := [.ref (ad 6 0), .int (iI y1), .ref ob]) (rest := []) (w_held l E hst ad S ob og y1 H hPR.pp hI hy1 hPR.oo hPR.aa hPR.nn) 3 (lw_SW q584 q585 q45 q586) (by decide +kernel) ⟨⟨Nat.le_of_ble_eq_true rfl, Nat.le_of_ble_eq_true rfl⟩, by show cc_ + 1 ≤ 1200384; omega, by show sl_ + 6 ≤ 5488810; omega⟩ rfl rfl hl.1 (Nat.le_of_ble_eq_true rfl) dL_law_1432 (fun q h => by have := hPR.oWn hkN q h; omega) (hPR.oWn hkN) (fun z H locs hw hk hz_ ho_ hS => ?_)
  obtain ⟨hz0, ad1, S1, og1, hPR, ead, h0, h1⟩ := hPR.wr hw ho_
  subst hz0
  refine g_istore (lv' := [(5, .int (iI (erH S y1))), (4, .int (iI ((i : Nat) : Int))), (0, .ref b), (1, .ref (ad 6 0)), (2, .ref (am 0)), (3, .ref ob)]) X dL_law_1435 hl (by decide) rfl (fun ls hl => ?_)
  refine g_aload_n X dL_law_1437 rfl hl 4 rfl ?_
  refine g_aload_n X dL_law_1438 rfl hl 2 rfl ?_
  refine g_iload X dL_law_1439 hl 1 rfl ?_
  refine g_iconst X dL_law_1441 ?_
  refine g_iadd X dL_law_1442 ?_
  refine g_sld X hX hbl hS (v := y1) (j := i + 1) (by omega) (by omega) ey1.symm dL_law_1443 ?_
  refine g_calli (g_runV X hk (As := [.int (iI y1)]) (rest := []) rfl (MP.O hPR.mm) (m_held l E am S M H hPR.mm hI hMR hMI y1 hy1) 1 (lw_V q907 q908 q909 q48 q910) (by decide +kernel) ⟨⟨Nat.le_of_ble_eq_true rfl, Nat.le_of_ble_eq_true rfl⟩, by show cc_ + 1 + 0 ≤ 1200384; omega, by show sl_ + 6 + 0 ≤ 5488810; omega⟩ rfl rfl hl.1 (Nat.le_of_ble_eq_true rfl) dL_law_1444) hk hS (fun q h => by have := MP.N hPR.mm q h; omega) (MP.N hPR.mm) (fun z2 H locs hP_ hk hz_ ho2_ hS => ?_)
  obtain ⟨M1, hM1, t1, a1, q1⟩ := hP_
  have hPR2 := hPR.md hM1 ho2_
  have ht1 : 0 ≤ M1 0 0 ∧ M1 0 0 ≤ 3 := by rw [t1]; omega
  have a1 := fun e0 : erH S y1 = 0 => (a1 e0).trans (A_held hRL e0)
  have hRL2 : RL S1 M1 := by by_cases e0 : erH S y1 = 0; (rw [(h0 e0).1]; exact hRL.Q q1); (rw [h1 e0]; exact hRL.Q q1)
  refine g_istore (lv' := [(6, .int (iI z2)), (5, .int (iI (erH S y1))), (4, .int (iI ((i : Nat) : Int))), (0, .ref b), (1, .ref (ad 6 0)), (2, .ref (am 0)), (3, .ref ob)]) X dL_law_1447 hl (by decide) rfl (fun ls hl => ?_)
  refine g_aload_n X dL_law_1449 rfl hl 5 rfl ?_
  refine g_pV X hk (As := []) (rest := []) rfl (MP.O hPR2.mm) (m_thrown l E am M1 H hPR2.mm) 0 (lw_V q683 q684 q685 q48 q686) (by decide +kernel) ⟨⟨Nat.le_of_ble_eq_true rfl, Nat.le_of_ble_eq_true rfl⟩, by show cc_ + 1 ≤ 1200384; omega, by show sl_ + 6 ≤ 5488810; omega⟩ rfl rfl hl.1 (Nat.le_of_ble_eq_true rfl) dL_law_1450 ?_
  refine g_iload X dL_law_1453 hl 1 rfl ?_
  refine g_icmp_eq X dL_law_1455 (tgt := 1460) (by decide) (by omega) (fun c1455 => ?_) (fun c1455 => ?_)
  · refine g_iload X dL_law_1460 hl 1 rfl ?_
    refine g_if_ne X dL_law_1462 (tgt := 1477) (by decide) (by omega) (fun c1462 => ?_) (fun c1462 => ?_)
    · refine g_goto X dL_law_1477 (tgt := 1506) (by decide) ?_
      refine W.widen (k := cc_ + 100) (n := sl_ + 5000) (by omega) (by omega) ?_
      exact K ad1 S1 M1 og1 H locs ls hk hS hPR2 hRL2 ead (lv_sub hl [2, 3, 4, 5, 6] rfl)
    · refine g_aload_n X dL_law_1465 rfl hl 6 rfl ?_
      refine g_iconst X dL_law_1466 ?_
      have e0 : erH S y1 = 0 := by omega
      refine g_lald X hk hPR2.oo (j := 0) rfl (by decide) dL_law_1467 ?_
      refine g_iload X dL_law_1468 hl 0 rfl ?_
      refine lv_i2l X.1.1 X.1.2.1 dL_law_1470 (v := lI z2) rfl ?_
      refine g_lcmpE X (by rw [(h0 e0).2, a1 e0]) dL_law_1471 ?_
      refine g_if_eq X dL_law_1472 (tgt := 1477) (by decide) (by omega) (fun c1472 => ?_) (fun c1472 => ?_)
      · refine g_goto X dL_law_1477 (tgt := 1506) (by decide) ?_
        refine W.widen (k := cc_ + 100) (n := sl_ + 5000) (by omega) (by omega) ?_
        exact K ad1 S1 M1 og1 H locs ls hk hS hPR2 hRL2 ead (lv_sub hl [2, 3, 4, 5, 6] rfl)
      · exact absurd rfl c1472
  · exact absurd (t1) c1455
set_option maxHeartbeats 4000000 in
theorem lc_22 {P_ : Program} {e_ : Env} {s : State} {M_ : MethodId} {bl : List Frame} {mt_ : Method} {c_ : Code} (l : Launch) (hst : l.stackTraces = false) {E : EP} {b L : Nat} {xs : Nat → Int32} (X : gX P_ s M_ mt_ c_ cL_law 7 ([.ref b] : List Value).toArray RX0 (some .boolean)) (hX : va_X b L xs s s.heap) (hbl : b < s.heap.size) (hL : L ≤ 384) (hE : eN E = s.heap.size) {Q : State → Prop} (ad : Nat → Nat → Nat) (S : GS) (am : Nat → Nat) (M : MS) (ob : Nat) (og : Nat → Int64) (H : Heap) (locs : List Loc) (ls : Array Slot) (cc_ sl_ i : Nat) (hR : cc_ + 100 ≤ 1200384 ∧ sl_ + 5000 ≤ 5488810) (hi : i + 5 < L) (hk : kk E s H) (hS : va_S (nA s.heap) s.heap H locs) (hPR : PR E ad S am M ob og H) (hRL : RL S M) (hl : lv_has ls 7 [(4, .int (iI ((i : Nat) : Int))), (0, .ref b), (1, .ref (ad 6 0)), (2, .ref (am 0)), (3, .ref ob)])
    (K : ∀ (ad1 : Nat → Nat → Nat) (S1 : GS) (M1 : MS) (og1 : Nat → Int64) (H1 : Heap) (locs1 : List Loc) (ls1 : Array Slot), kk E s H1 → va_S (nA s.heap) s.heap H1 locs1 → PR E ad1 S1 am M1 ob og1 H1 → RL S1 M1 → ad1 6 0 = ad 6 0 → lv_has ls1 7 [(4, .int (iI ((i : Nat) : Int))), (0, .ref b), (1, .ref (ad 6 0)), (2, .ref (am 0)), (3, .ref ob)] → W P_ l e_ room_1 s M_ ([.ref b] : List Value).toArray bl mt_ c_ H1 locs1 (cc_ + 100) (sl_ + 5000) Q (F0 M_ 1506 ls1 [])) : W P_ l e_ room_1 s M_ ([.ref b] : List Value).toArray bl mt_ c_ H locs cc_ sl_ Q (F0 M_ 1480 ls []) := by
  obtain ⟨hI, hMR, hMD, hMC, hMI, hid⟩ := id hRL
  refine g_aload_n X dL_law_1480 rfl hl 2 rfl ?_
  refine g_pV X hk (As := []) (rest := []) rfl (GP.X hPR.pp) (p_come l E ad S H hPR.pp) 0 (lw_V q169 q170 q171 q46 q172) (by decide +kernel) ⟨⟨Nat.le_of_ble_eq_true rfl, Nat.le_of_ble_eq_true rfl⟩, by show cc_ ≤ 1200384; omega, by show sl_ ≤ 5488810; omega⟩ rfl rfl hl.1 (Nat.le_of_ble_eq_true rfl) dL_law_1481 ?_
  refine g_aload_n X dL_law_1484 rfl hl 3 rfl ?_
  refine g_calli (g_runV X hk (As := []) (rest := [.int (iI (gCam S))]) rfl (MP.O hPR.mm) (m_come l E am S M H hPR.mm hI hMR hMI) 0 (lw_V q911 q912 q913 q48 q914) (by decide +kernel) ⟨⟨Nat.le_of_ble_eq_true rfl, Nat.le_of_ble_eq_true rfl⟩, by show cc_ + 0 + 0 ≤ 1200384; omega, by show sl_ + 0 + 0 ≤ 5488810; omega⟩ rfl rfl hl.1 (Nat.le_of_ble_eq_true rfl) dL_law_1485) hk hS (fun q h => by have := MP.N hPR.mm q h; omega) (MP.N hPR.mm) (fun z2 H locs hP_ hk hz_ ho2_ hS => ?_)
  obtain ⟨a1, M1, hM1, q1⟩ := hP_
  have hPR2 := hPR.md hM1 ho2_
  have hRL2 : RL S M1 := hRL.Q q1
  replace a1 := a1.trans (A_come hRL)
  subst a1
  refine g_icmp_same X dL_law_1488 (tgt := 1506) (by decide) ?_
  refine W.widen (k := cc_ + 100) (n := sl_ + 5000) (by omega) (by omega) ?_
  exact K ad S M1 og H locs ls hk hS hPR2 hRL2 rfl (lv_sub hl [0, 1, 2, 3, 4] rfl)
set_option maxHeartbeats 4000000 in
theorem lc_23 {P_ : Program} {e_ : Env} {s : State} {M_ : MethodId} {bl : List Frame} {mt_ : Method} {c_ : Code} (l : Launch) (hst : l.stackTraces = false) {E : EP} {b L : Nat} {xs : Nat → Int32} (X : gX P_ s M_ mt_ c_ cL_law 7 ([.ref b] : List Value).toArray RX0 (some .boolean)) (hX : va_X b L xs s s.heap) (hbl : b < s.heap.size) (hL : L ≤ 384) (hE : eN E = s.heap.size) {Q : State → Prop} (ad : Nat → Nat → Nat) (S : GS) (am : Nat → Nat) (M : MS) (ob : Nat) (og : Nat → Int64) (H : Heap) (locs : List Loc) (ls : Array Slot) (cc_ sl_ i : Nat) (hR : cc_ + 100 ≤ 1200384 ∧ sl_ + 5000 ≤ 5488810) (hi : i + 5 < L) (hk : kk E s H) (hS : va_S (nA s.heap) s.heap H locs) (hPR : PR E ad S am M ob og H) (hRL : RL S M) (hl : lv_has ls 7 [(4, .int (iI ((i : Nat) : Int))), (0, .ref b), (1, .ref (ad 6 0)), (2, .ref (am 0)), (3, .ref ob)])
    (K : ∀ (ad1 : Nat → Nat → Nat) (S1 : GS) (M1 : MS) (og1 : Nat → Int64) (H1 : Heap) (locs1 : List Loc) (ls1 : Array Slot), kk E s H1 → va_S (nA s.heap) s.heap H1 locs1 → PR E ad1 S1 am M1 ob og1 H1 → RL S1 M1 → ad1 6 0 = ad 6 0 → lv_has ls1 7 [(4, .int (iI ((i : Nat) : Int))), (0, .ref b), (1, .ref (ad 6 0)), (2, .ref (am 0)), (3, .ref ob)] → W P_ l e_ room_1 s M_ ([.ref b] : List Value).toArray bl mt_ c_ H1 locs1 (cc_ + 100) (sl_ + 5000) Q (F0 M_ 1506 ls1 [])) : W P_ l e_ room_1 s M_ ([.ref b] : List Value).toArray bl mt_ c_ H locs cc_ sl_ Q (F0 M_ 1493 ls []) := by
  obtain ⟨hI, hMR, hMD, hMC, hMI, hid⟩ := id hRL
  refine g_aload_n X dL_law_1493 rfl hl 2 rfl ?_
  refine g_pV X hk (As := []) (rest := []) rfl (GP.X hPR.pp) (p_through l E ad S H hPR.pp) 0 (lw_V q173 q174 q175 q46 q176) (by decide +kernel) ⟨⟨Nat.le_of_ble_eq_true rfl, Nat.le_of_ble_eq_true rfl⟩, by show cc_ ≤ 1200384; omega, by show sl_ ≤ 5488810; omega⟩ rfl rfl hl.1 (Nat.le_of_ble_eq_true rfl) dL_law_1494 ?_
  refine g_aload_n X dL_law_1497 rfl hl 3 rfl ?_
  refine g_calli (g_runV X hk (As := []) (rest := [.int (iI (gLef S))]) rfl (MP.O hPR.mm) (m_through l E am S M H hPR.mm hI hMR hMI) 0 (lw_V q915 q916 q917 q48 q918) (by decide +kernel) ⟨⟨Nat.le_of_ble_eq_true rfl, Nat.le_of_ble_eq_true rfl⟩, by show cc_ + 0 + 0 ≤ 1200384; omega, by show sl_ + 0 + 0 ≤ 5488810; omega⟩ rfl rfl hl.1 (Nat.le_of_ble_eq_true rfl) dL_law_1498) hk hS (fun q h => by have := MP.N hPR.mm q h; omega) (MP.N hPR.mm) (fun z2 H locs hP_ hk hz_ ho2_ hS => ?_)
  obtain ⟨a1, M1, hM1, q1⟩ := hP_
  have hPR2 := hPR.md hM1 ho2_
  have hRL2 : RL S M1 := hRL.Q q1
  replace a1 := a1.trans (A_through hRL)
  subst a1
  refine g_icmp_same X dL_law_1501 (tgt := 1506) (by decide) ?_
  refine W.widen (k := cc_ + 100) (n := sl_ + 5000) (by omega) (by omega) ?_
  exact K ad S M1 og H locs ls hk hS hPR2 hRL2 rfl (lv_sub hl [0, 1, 2, 3, 4] rfl)
