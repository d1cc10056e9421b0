/-! the corridor is made -/
abbrev jNew : List Value := [.int (iI 0), .null, .null, .null, .int (iI 0), .int (iI 0), .int (iI 0), .null, .int (iI 0), .int (iI 0), .int (iI 0), .int (iI 0), .int (iI 0), .null]
abbrev jMade (c : Int) (cf fl ph ch cm : Nat) : List Value := [.int (iI c), .ref cf, .ref fl, .ref ph, .int (iI 0), .int (iI 10), .int (iI 20), .ref ch, .int (iI 0), .int (iI 0), .int (iI 0), .int (iI 0), .int (iI 0), .ref cm]
def ph0 (k : Nat) : Int := if k = 0 then 3 else 12
set_option maxHeartbeats 4000000 in
theorem p_J2 (l : Launch) (E : EP) (a q : Nat) (c : Int) (H : Heap) (hO : ce E a (.inr (1, jNew)) H) (hN : eN E ≤ a) : gMv l E yX2_init_2 cX2_init_2 3 1 4 81 H [.ref a, .int (iI c), .ref q] (cW a H) (fun H1 => Array.size H1 = Array.size H + 4 ∧ ce E a (.inr (1, jMade c (Array.size H + 0) (Array.size H + 1) q (Array.size H + 2) (Array.size H + 3))) H1 ∧ ce E (Array.size H + 0) (aI E 16 fcF) H1 ∧ ce E (Array.size H + 1) (aI E 4 (fun _ => 0)) H1 ∧ ce E (Array.size H + 2) (aI E 0 (fun _ => 0)) H1 ∧ ce E (Array.size H + 3) (aI E 61 (fun _ => 0)) H1) := by
  refine g_met (plainFor_of_name (by decide)) (Nat.le_of_ble_eq_true rfl) (fun P_ e_ s M_ bl mt_ c_ ls X hmeth_ hk hh hl => ?_)
  subst hh
  have X : gX P_ s M_ mt_ c_ cX2_init_2 3 ([.ref a, .int (iI c), .ref q] : List Value).toArray RX2 none := X
  have hl : lv_has ls 3 [(0, .ref a), (1, .int (iI c)), (2, .ref q)] := hl
  have hS : va_S (cW a s.heap) s.heap s.heap [] := va_S.rf
  have hN0 : eN E ≤ s.heap.size := hk.N
  have hin_ : mt_.name = "<init>" := (name_of_methodNamed hmeth_.1 hmeth_.2).1
  have ha : a < s.heap.size := hO.lt
  have hsz : Array.size s.heap = s.heap.size + 0 := rfl
  refine g_aload_n X dX2_init_2_0 rfl hl 0 rfl ?_
  refine g_oinit X q79 q64 q65 hl.1 (Nat.le_of_ble_eq_true rfl) dX2_init_2_1 ⟨Nat.le_of_ble_eq_true rfl, Nat.le_of_ble_eq_true rfl⟩ ?_
  refine g_aload_n X dX2_init_2_4 rfl hl 0 rfl ?_
  refine g_bipush X dX2_init_2_5 rfl ?_
  refine g_put X hk hS ⟨Or.inl rfl, hN⟩ in_X2 tyX2 tyX2_ok nmX2 rfl hO 5 (by decide) q98 rfl (ty := .int) (by decide +kernel) rfl rfl (Nat.le_of_ble_eq_true rfl) dX2_init_2_7 (fun H locs hc_ hk hz_ ho_ hS => ?_)
  have hO : ce E a (.inr (1, [.int (iI 0), .null, .null, .null, .int (iI 0), .int (iI 10), .int (iI 0), .null, .int (iI 0), .int (iI 0), .int (iI 0), .int (iI 0), .int (iI 0), .null])) H := hc_
  have hsz : Array.size H = s.heap.size + 0 := by omega
  refine g_aload_n X dX2_init_2_10 rfl hl 0 rfl ?_
  refine g_bipush X dX2_init_2_11 rfl ?_
  refine g_put X hk hS ⟨Or.inl rfl, hN⟩ in_X2 tyX2 tyX2_ok nmX2 rfl hO 6 (by decide) q100 rfl (ty := .int) (by decide +kernel) rfl rfl (Nat.le_of_ble_eq_true rfl) dX2_init_2_13 (fun H locs hc_ hk hz_ ho_ hS => ?_)
  have hO : ce E a (.inr (1, [.int (iI 0), .null, .null, .null, .int (iI 0), .int (iI 10), .int (iI 20), .null, .int (iI 0), .int (iI 0), .int (iI 0), .int (iI 0), .int (iI 0), .null])) H := hc_
  have hsz : Array.size H = s.heap.size + 0 := by omega
  refine g_aload_n X dX2_init_2_16 rfl hl 0 rfl ?_
  refine g_getFC X hk (host := "Greenwave") 0 rfl dX2_init_2_17 ?_
  refine g_cloneFC X hk hS q82 hl.1 (Nat.le_of_ble_eq_true rfl) ⟨Nat.le_of_ble_eq_true rfl, Nat.le_of_ble_eq_true rfl, Nat.le_of_ble_eq_true rfl, Nat.le_of_ble_eq_true rfl⟩ dX2_init_2_20 (fun q_ H hq_ hc_ hk hz_ ho_ hS => ?_)
  have hq2_ : q_ = (s.heap.size + 0) := by omega
  subst hq2_
  have hC : ce E (s.heap.size + 0) (aI E 16 fcF) H := hc_
  have hO := hO.kept (ho_ a (by omega))
  have hsz : Array.size H = s.heap.size + 1 := by omega
  refine g_castI X hk q88 hC dX2_init_2_23 ?_
  refine g_putF X hk hS ⟨Or.inl rfl, hN⟩ in_X2 tyX2 tyX2_ok nmX2 rfl hO 1 (by decide) q90 rfl hin_ rfl (ty := .array .int) (by decide +kernel) rfl rfl (Nat.le_of_ble_eq_true rfl) dX2_init_2_26 (fun H locs hc_ hk hz_ ho_ hS => ?_)
  have hO : ce E a (.inr (1, [.int (iI 0), .ref (s.heap.size + 0), .null, .null, .int (iI 0), .int (iI 10), .int (iI 20), .null, .int (iI 0), .int (iI 0), .int (iI 0), .int (iI 0), .int (iI 0), .null])) H := hc_
  have hC := hC.kept (ho_ _ (by omega))
  have hsz : Array.size H = s.heap.size + 1 := by omega
  refine g_aload_n X dX2_init_2_29 rfl hl 0 rfl ?_
  refine g_iconst X dX2_init_2_30 ?_
  refine g_newI X hk hS (N := 4) rfl (by omega) ⟨Nat.le_of_ble_eq_true rfl, Nat.le_of_ble_eq_true rfl⟩ dX2_init_2_31 (fun q_ H hq_ hc_ hk hz_ ho_ hS => ?_)
  have hq2_ : q_ = (s.heap.size + 1) := by omega
  subst hq2_
  have hF : ce E (s.heap.size + 1) (aI E 4 (fun _ => 0)) H := hc_
  have hO := hO.kept (ho_ a (by omega))
  have hC := hC.kept (ho_ _ (by omega))
  have hsz : Array.size H = s.heap.size + 2 := by omega
  refine g_putF X hk hS ⟨Or.inl rfl, hN⟩ in_X2 tyX2 tyX2_ok nmX2 rfl hO 2 (by decide) q92 rfl hin_ rfl (ty := .array .int) (by decide +kernel) rfl rfl (Nat.le_of_ble_eq_true rfl) dX2_init_2_33 (fun H locs hc_ hk hz_ ho_ hS => ?_)
  have hO : ce E a (.inr (1, [.int (iI 0), .ref (s.heap.size + 0), .ref (s.heap.size + 1), .null, .int (iI 0), .int (iI 10), .int (iI 20), .null, .int (iI 0), .int (iI 0), .int (iI 0), .int (iI 0), .int (iI 0), .null])) H := hc_
  have hC := hC.kept (ho_ _ (by omega))
  have hF := hF.kept (ho_ _ (by omega))
  have hsz : Array.size H = s.heap.size + 2 := by omega
  refine g_aload_n X dX2_init_2_36 rfl hl 0 rfl ?_
  refine g_iconst X dX2_init_2_37 ?_
  refine g_newI X hk hS (N := 0) rfl (by omega) ⟨Nat.le_of_ble_eq_true rfl, Nat.le_of_ble_eq_true rfl⟩ dX2_init_2_38 (fun q_ H hq_ hc_ hk hz_ ho_ hS => ?_)
  have hq2_ : q_ = (s.heap.size + 2) := by omega
  subst hq2_
  have hG : ce E (s.heap.size + 2) (aI E 0 (fun _ => 0)) H := hc_
  have hO := hO.kept (ho_ a (by omega))
  have hC := hC.kept (ho_ _ (by omega))
  have hF := hF.kept (ho_ _ (by omega))
  have hsz : Array.size H = s.heap.size + 3 := by omega
  refine g_put X hk hS ⟨Or.inl rfl, hN⟩ in_X2 tyX2 tyX2_ok nmX2 rfl hO 7 (by decide) q102 rfl (ty := .array .int) (by decide +kernel) rfl rfl (Nat.le_of_ble_eq_true rfl) dX2_init_2_40 (fun H locs hc_ hk hz_ ho_ hS => ?_)
  have hO : ce E a (.inr (1, [.int (iI 0), .ref (s.heap.size + 0), .ref (s.heap.size + 1), .null, .int (iI 0), .int (iI 10), .int (iI 20), .ref (s.heap.size + 2), .int (iI 0), .int (iI 0), .int (iI 0), .int (iI 0), .int (iI 0), .null])) H := hc_
  have hC := hC.kept (ho_ _ (by omega))
  have hF := hF.kept (ho_ _ (by omega))
  have hG := hG.kept (ho_ _ (by omega))
  have hsz : Array.size H = s.heap.size + 3 := by omega
  refine g_aload_n X dX2_init_2_43 rfl hl 0 rfl ?_
  refine g_bipush X dX2_init_2_44 rfl ?_
  refine g_newI X hk hS (N := 61) rfl (by omega) ⟨Nat.le_of_ble_eq_true rfl, Nat.le_of_ble_eq_true rfl⟩ dX2_init_2_46 (fun q_ H hq_ hc_ hk hz_ ho_ hS => ?_)
  have hq2_ : q_ = (s.heap.size + 3) := by omega
  subst hq2_
  have hM : ce E (s.heap.size + 3) (aI E 61 (fun _ => 0)) H := hc_
  have hO := hO.kept (ho_ a (by omega))
  have hC := hC.kept (ho_ _ (by omega))
  have hF := hF.kept (ho_ _ (by omega))
  have hG := hG.kept (ho_ _ (by omega))
  have hsz : Array.size H = s.heap.size + 4 := by omega
  refine g_putF X hk hS ⟨Or.inl rfl, hN⟩ in_X2 tyX2 tyX2_ok nmX2 rfl hO 13 (by decide) q110 rfl hin_ rfl (ty := .array .int) (by decide +kernel) rfl rfl (Nat.le_of_ble_eq_true rfl) dX2_init_2_48 (fun H locs hc_ hk hz_ ho_ hS => ?_)
  have hO : ce E a (.inr (1, [.int (iI 0), .ref (s.heap.size + 0), .ref (s.heap.size + 1), .null, .int (iI 0), .int (iI 10), .int (iI 20), .ref (s.heap.size + 2), .int (iI 0), .int (iI 0), .int (iI 0), .int (iI 0), .int (iI 0), .ref (s.heap.size + 3)])) H := hc_
  have hC := hC.kept (ho_ _ (by omega))
  have hF := hF.kept (ho_ _ (by omega))
  have hG := hG.kept (ho_ _ (by omega))
  have hM := hM.kept (ho_ _ (by omega))
  have hsz : Array.size H = s.heap.size + 4 := by omega
  refine g_aload_n X dX2_init_2_51 rfl hl 0 rfl ?_
  refine g_iload_n X dX2_init_2_52 rfl hl 1 rfl ?_
  refine g_putF X hk hS ⟨Or.inl rfl, hN⟩ in_X2 tyX2 tyX2_ok nmX2 rfl hO 0 (by decide) q89 rfl hin_ rfl (ty := .int) (by decide +kernel) rfl rfl (Nat.le_of_ble_eq_true rfl) dX2_init_2_53 (fun H locs hc_ hk hz_ ho_ hS => ?_)
  have hO : ce E a (.inr (1, [.int (iI c), .ref (s.heap.size + 0), .ref (s.heap.size + 1), .null, .int (iI 0), .int (iI 10), .int (iI 20), .ref (s.heap.size + 2), .int (iI 0), .int (iI 0), .int (iI 0), .int (iI 0), .int (iI 0), .ref (s.heap.size + 3)])) H := hc_
  have hC := hC.kept (ho_ _ (by omega))
  have hF := hF.kept (ho_ _ (by omega))
  have hG := hG.kept (ho_ _ (by omega))
  have hM := hM.kept (ho_ _ (by omega))
  have hsz : Array.size H = s.heap.size + 4 := by omega
  refine g_aload_n X dX2_init_2_56 rfl hl 0 rfl ?_
  refine g_aload_n X dX2_init_2_57 rfl hl 2 rfl ?_
  refine g_put X hk hS ⟨Or.inl rfl, hN⟩ in_X2 tyX2 tyX2_ok nmX2 rfl hO 3 (by decide) q94 rfl (ty := .array .int) (by decide +kernel) rfl rfl (Nat.le_of_ble_eq_true rfl) dX2_init_2_58 (fun H locs hc_ hk hz_ ho_ hS => ?_)
  have hO : ce E a (.inr (1, [.int (iI c), .ref (s.heap.size + 0), .ref (s.heap.size + 1), .ref q, .int (iI 0), .int (iI 10), .int (iI 20), .ref (s.heap.size + 2), .int (iI 0), .int (iI 0), .int (iI 0), .int (iI 0), .int (iI 0), .ref (s.heap.size + 3)])) H := hc_
  have hC := hC.kept (ho_ _ (by omega))
  have hF := hF.kept (ho_ _ (by omega))
  have hG := hG.kept (ho_ _ (by omega))
  have hM := hM.kept (ho_ _ (by omega))
  have hsz : Array.size H = s.heap.size + 4 := by omega
  exact g_vret X hS (⟨hsz, hO, hC, hF, hG, hM⟩) ⟨Nat.le_of_ble_eq_true rfl, Nat.le_of_ble_eq_true rfl⟩ dX2_init_2_61
set_option maxHeartbeats 4000000 in
theorem p_J1 (l : Launch) (E : EP) (a : Nat) (c : Int) (H : Heap) (hO0 : ce E a (.inr (1, jNew)) H) (hN : eN E ≤ a) : gMv l E yX2_init cX2_init 2 2 5 83 H [.ref a, .int (iI c)] (cW a H) (fun H1 => Array.size H1 = Array.size H + 5 ∧ ce E a (.inr (1, jMade c (Array.size H + 1) (Array.size H + 2) (Array.size H + 0) (Array.size H + 3) (Array.size H + 4))) H1 ∧ ce E (Array.size H + 0) (aI E 2 ph0) H1 ∧ ce E (Array.size H + 1) (aI E 16 fcF) H1 ∧ ce E (Array.size H + 2) (aI E 4 (fun _ => 0)) H1 ∧ ce E (Array.size H + 3) (aI E 0 (fun _ => 0)) H1 ∧ ce E (Array.size H + 4) (aI E 61 (fun _ => 0)) H1) := by
  refine g_met (plainFor_of_name (by decide)) (Nat.le_of_ble_eq_true rfl) (fun P_ e_ s M_ bl mt_ c_ ls X hmeth_ hk hh hl => ?_)
  subst hh
  have X : gX P_ s M_ mt_ c_ cX2_init 2 ([.ref a, .int (iI c)] : List Value).toArray RX2 none := X
  have hl : lv_has ls 2 [(0, .ref a), (1, .int (iI c))] := hl
  have hS : va_S (cW a s.heap) s.heap s.heap [] := va_S.rf
  have hN0 : eN E ≤ s.heap.size := hk.N
  have ha : a < s.heap.size := hO0.lt
  refine g_aload_n X dX2_init_0 rfl hl 0 rfl ?_
  refine g_iload_n X dX2_init_1 rfl hl 1 rfl ?_
  refine g_iconst X dX2_init_2 ?_
  refine g_newI X hk hS (N := 2) rfl (by omega) ⟨Nat.le_of_ble_eq_true rfl, Nat.le_of_ble_eq_true rfl⟩ dX2_init_3 (fun q_ H hq_ hc_ hk hz_ ho_ hS => ?_)
  have hq2_ : q_ = s.heap.size + 0 := by omega
  subst hq2_
  have hPh : ce E (s.heap.size + 0) (aI E 2 (fun _ => 0)) H := hc_
  have hoo : ∀ x : Nat, x < s.heap.size → x ≠ s.heap.size + 0 → H[x]? = s.heap[x]? := fun x hx _ => ho_ x hx
  have hsz : Array.size H = s.heap.size + 1 := by omega
  refine g_dup X dX2_init_5 rfl ?_
  refine g_iconst X dX2_init_6 ?_
  refine g_iconst X dX2_init_7 ?_
  refine g_iast X hk hS ⟨Or.inr (by omega), by omega⟩ (j := 0) (n := 2) (f := (fun _ => 0)) hPh rfl (by omega) dX2_init_8 (fun H locs hc_ hk hz_ ho_ hS => ?_)
  have hPh : ce E (s.heap.size + 0) (aI E 2 (uI (fun _ => 0) 0 3)) H := hc_
  have hoo : ∀ x : Nat, x < s.heap.size → x ≠ s.heap.size + 0 → H[x]? = s.heap[x]? := fun x hx hn => (ho_ x hn).trans (hoo x hx hn)
  have hsz : Array.size H = s.heap.size + 1 := by omega
  refine g_dup X dX2_init_9 rfl ?_
  refine g_iconst X dX2_init_10 ?_
  refine g_bipush X dX2_init_11 rfl ?_
  refine g_iast X hk hS ⟨Or.inr (by omega), by omega⟩ (j := 1) (n := 2) (f := (uI (fun _ => 0) 0 3)) hPh rfl (by omega) dX2_init_13 (fun H locs hc_ hk hz_ ho_ hS => ?_)
  have hPh : ce E (s.heap.size + 0) (aI E 2 (uI (uI (fun _ => 0) 0 3) 1 12)) H := hc_
  have hoo : ∀ x : Nat, x < s.heap.size → x ≠ s.heap.size + 0 → H[x]? = s.heap[x]? := fun x hx hn => (ho_ x hn).trans (hoo x hx hn)
  have hsz : Array.size H = s.heap.size + 1 := by omega
  have hO := hO0.kept (hoo a (by omega) (by omega))
  refine g_callv (g_runI X hk (As := [.int (iI c), .ref (s.heap.size + 0)]) (rest := []) (p_J2 l E a (s.heap.size + 0) c H hO hN) 2 q47 q76 q77 q78 rfl (by decide +kernel) ⟨⟨Nat.le_of_ble_eq_true rfl, Nat.le_of_ble_eq_true rfl⟩, Nat.le_of_ble_eq_true rfl, Nat.le_of_ble_eq_true rfl⟩ rfl rfl hl.1 (Nat.le_of_ble_eq_true rfl) dX2_init_14) hk hS (fun z h => h.elim Or.inl (fun h2 => Or.inr (by omega))) (fun z h => h.elim (fun h2 => by rw [h2]; exact hN) (fun h2 => by omega)) (fun H locs hP_ hk hz_ ho_ hS => ?_)
  have hP_ := hP_
  rw [hsz] at hP_
  obtain ⟨hsz2, hO2, hC2, hF2, hG2, hM2⟩ := hP_
  have hPh := hPh.kept (ho_ _ (by omega) (fun h => h.elim (fun h2 => by omega) (fun h2 => by omega)))
  exact g_vret X hS (⟨hsz2, hO2, ce_I hPh (fun i hi => by rcases (show i = 0 ∨ i = 1 by omega) with rfl | rfl <;> rfl), hC2, hF2, hG2, hM2⟩) ⟨Nat.le_of_ble_eq_true rfl, Nat.le_of_ble_eq_true rfl⟩ dX2_init_17
/-- where a corridor's cells lie when it is made: x at a, the array at sz, each junction in 6 cells -/
def cAd (a sz : Nat) (k j : Nat) : Nat := if k = 6 then a else if k = 7 then sz else sz + 1 + 6 * j + (if k = 0 then 0 else if k = 3 then 1 else if k = 1 then 2 else if k = 2 then 3 else if k = 4 then 4 else 5)
theorem cAd_r {k j : Nat} (a sz : Nat) (h : k < 6) : sz + 1 + 6 * j ≤ cAd a sz k j ∧ cAd a sz k j < sz + 1 + 6 * (j + 1) := by
  unfold cAd
  rw [if_neg (by omega), if_neg (by omega)]
  repeat' split
  all_goals omega
theorem cAd_i {a sz k j k' j' : Nat} (h : k < 6) (h' : k' < 6) (e : cAd a sz k j = cAd a sz k' j') : k = k' ∧ j = j' := by
  have h1 := cAd_r (j := j) a sz h
  have h2 := cAd_r (j := j') a sz h'
  have hj : j = j' := by omega
  subst hj
  unfold cAd at e
  rw [if_neg (show ¬ k = 6 by omega), if_neg (show ¬ k = 7 by omega), if_neg (show ¬ k' = 6 by omega), if_neg (show ¬ k' = 7 by omega)] at e
  refine ⟨?_, rfl⟩
  repeat' split at e
  all_goals omega
def cJs (E : EP) (a sz n : Nat) (c : Int) (k : Nat) (H : Heap) : Prop := ∀ j, j < k → ∀ i, i < 6 → ce E (cAd a sz i j) (gcell E (cAd a sz) (gBeg n c) i j) H
def cRow (sz k : Nat) (i : Nat) : Option Nat := if i < k then some (sz + 1 + 6 * i) else none
theorem cRow_s (sz k : Nat) : va_up (cRow sz k) k (some (sz + 1 + 6 * k)) = cRow sz (k + 1) := by
  funext i
  show (if i = k then some (sz + 1 + 6 * k) else if i < k then some (sz + 1 + 6 * i) else none) = (if i < k + 1 then some (sz + 1 + 6 * i) else none)
  by_cases h : i = k
  · subst h; simp
  · by_cases h2 : i < k
    · rw [if_neg h, if_pos h2, if_pos (by omega)]
    · rw [if_neg h, if_neg h2, if_neg (by omega)]
section CM
variable {E : EP} {a sz n k : Nat} {c : Int} {H H1 : Heap}
theorem cJs.kept (h : cJs E a sz n c k H) (o : ∀ q : Nat, sz + 1 ≤ q → q < sz + 1 + 6 * k → H1[q]? = H[q]?) : cJs E a sz n c k H1 := fun j hj i hi => (h j hj i hi).kept (o _ (by have := cAd_r (j := j) a sz hi; omega) (by have := cAd_r (j := j) a sz hi; omega))
theorem cJs.step (h : cJs E a sz n c k H) (h0 : ce E (sz + 1 + 6 * k) (.inr (1, jMade c (sz + 1 + 6 * k + 1 + 1) (sz + 1 + 6 * k + 1 + 2) (sz + 1 + 6 * k + 1 + 0) (sz + 1 + 6 * k + 1 + 3) (sz + 1 + 6 * k + 1 + 4))) H) (h3 : ce E (sz + 1 + 6 * k + 1 + 0) (aI E 2 ph0) H) (h1 : ce E (sz + 1 + 6 * k + 1 + 1) (aI E 16 fcF) H) (h2 : ce E (sz + 1 + 6 * k + 1 + 2) (aI E 4 (fun _ => 0)) H) (h4 : ce E (sz + 1 + 6 * k + 1 + 3) (aI E 0 (fun _ => 0)) H) (h5 : ce E (sz + 1 + 6 * k + 1 + 4) (aI E 61 (fun _ => 0)) H) : cJs E a sz n c (k + 1) H := by
  intro j hj i hi
  by_cases e : j = k
  · subst e
    rcases (show i = 0 ∨ i = 1 ∨ i = 2 ∨ i = 3 ∨ i = 4 ∨ i = 5 by omega) with rfl | rfl | rfl | rfl | rfl | rfl
    · exact h0
    · exact h1
    · exact h2
    · exact h3
    · exact h4
    · exact h5
  · exact h j (by omega) i hi
theorem cJs.GP (h : cJs E a sz n c n H) (ha : a < sz) (hN : eN E ≤ a) (hX : ce E a (.inr (0, [.ref sz, .int (iI c), .int (iI 0), .int (iI 0), .int (iI 0), .int (iI 0)])) H) (hQ : ce E sz (aQ E 1 n (cRow sz n)) H) : GP E (cAd a sz) (gBeg n c) H := by
  have hr : ∀ k j, gv n k j → (k < 6 ∧ j < n) ∨ (k = 6 ∧ j = 0) ∨ (k = 7 ∧ j = 0) := fun k j hv => by rcases hv with h | h <;> omega
  refine ⟨fun k j hv => ?_, fun k j k' j' hv hv' e => ?_, fun k j hv => ?_⟩
  · rcases hr k j hv with ⟨h1, h2⟩ | ⟨rfl, rfl⟩ | ⟨rfl, rfl⟩
    · exact h j h2 k h1
    · exact hX
    · have e1 : H[sz]? = some (arrV (eA E 1) n (fun i => va_rf (cRow sz n i))) := hQ
      rw [arr_ext (g := fun i => va_rf (some (cAd a sz 0 i))) (fun i hi => by show va_rf (cRow sz n i) = _; unfold cRow; rw [if_pos hi]; rfl)] at e1
      exact e1
  · rcases hr k j hv with ⟨h1, h2⟩ | ⟨rfl, rfl⟩ | ⟨rfl, rfl⟩ <;> rcases hr k' j' hv' with ⟨h1', h2'⟩ | ⟨rfl, rfl⟩ | ⟨rfl, rfl⟩
    · exact cAd_i h1 h1' e
    · have := cAd_r (j := j) a sz h1; have e2 : cAd a sz 6 0 = a := rfl; omega
    · have := cAd_r (j := j) a sz h1; have e2 : cAd a sz 7 0 = sz := rfl; omega
    · have := cAd_r (j := j') a sz h1'; have e2 : cAd a sz 6 0 = a := rfl; omega
    · exact ⟨rfl, rfl⟩
    · have e2 : cAd a sz 6 0 = a := rfl; have e3 : cAd a sz 7 0 = sz := rfl; omega
    · have := cAd_r (j := j') a sz h1'; have e2 : cAd a sz 7 0 = sz := rfl; omega
    · have e2 : cAd a sz 6 0 = a := rfl; have e3 : cAd a sz 7 0 = sz := rfl; omega
    · exact ⟨rfl, rfl⟩
  · rcases hr k j hv with ⟨h1, h2⟩ | ⟨rfl, rfl⟩ | ⟨rfl, rfl⟩
    · have := cAd_r (j := j) a sz h1; omega
    · exact hN
    · show eN E ≤ sz; omega
end CM
set_option maxHeartbeats 4000000 in
theorem p_clear (l : Launch) (E : EP) (a n : Nat) (c : Int) (v0 v1 v2 v3 v4 v5 : Value) (H : Heap) (hO : ce E a (.inr (0, [v0, v1, v2, v3, v4, v5])) H) (hN : eN E ≤ a) (hn : 2 ≤ n ∧ n ≤ 5) : gMv l E yX1_clear cX1_clear 4 3 31 490 H [.ref a, .int (iI ((n : Nat) : Int)), .int (iI c)] (cW a H) (fun H1 => Array.size H ≤ Array.size H1 ∧ GP E (cAd a (Array.size H)) (gBeg n c) H1) := by
  refine g_met (plainFor_of_name (by decide)) (Nat.le_of_ble_eq_true rfl) (fun P_ e_ s M_ bl mt_ c_ ls X hmeth_ hk hh hl => ?_)
  subst hh
  have X : gX P_ s M_ mt_ c_ cX1_clear 4 ([.ref a, .int (iI ((n : Nat) : Int)), .int (iI c)] : List Value).toArray RX1 none := X
  have hl : lv_has ls 4 [(0, .ref a), (1, .int (iI ((n : Nat) : Int))), (2, .int (iI c))] := hl
  have hS : va_S (cW a s.heap) s.heap s.heap [] := va_S.rf
  have hN0 : eN E ≤ s.heap.size := hk.N
  have ha : a < s.heap.size := hO.lt
  refine g_aload_n X dX1_clear_0 rfl hl 0 rfl ?_
  refine g_iload_n X dX1_clear_1 rfl hl 1 rfl ?_
  refine g_newJ X hk hS q70 (N := n) rfl (by omega) ⟨Nat.le_of_ble_eq_true rfl, by show 0 + n ≤ 490; omega⟩ dX1_clear_2 (fun q_ H hq_ hc_ hk hz_ ho_ hS => ?_)
  subst hq_
  have hQ : ce E s.heap.size (aQ E 1 n (fun _ => none)) H := hc_
  have hO := hO.kept (ho_ a ha)
  have hsz : Array.size H = s.heap.size + 1 := by omega
  refine W.widen (k := 1) (n := 5) (by omega) (by show 0 + n ≤ 5; omega) ?_
  refine g_put X hk hS ⟨Or.inl rfl, hN⟩ in_X1 tyX1 tyX1_ok nmX1 rfl hO 0 (by decide) q142 rfl (ty := .array (.object "Greenwave$Junction")) (by decide +kernel) (rfl) rfl (Nat.le_of_ble_eq_true rfl) dX1_clear_5 (fun H locs hc_ hk hz_ ho_ hS => ?_)
  have hO : ce E a (.inr (0, [.ref s.heap.size, v1, v2, v3, v4, v5])) H := hc_
  have hQ := hQ.kept (ho_ _ (by omega))
  have hsz : Array.size H = s.heap.size + 1 := by omega
  refine g_aload_n X dX1_clear_8 rfl hl 0 rfl ?_
  refine g_iload_n X dX1_clear_9 rfl hl 2 rfl ?_
  refine g_put X hk hS ⟨Or.inl rfl, hN⟩ in_X1 tyX1 tyX1_ok nmX1 rfl hO 1 (by decide) q143 rfl (ty := .int) (by decide +kernel) (rfl) rfl (Nat.le_of_ble_eq_true rfl) dX1_clear_10 (fun H locs hc_ hk hz_ ho_ hS => ?_)
  have hO : ce E a (.inr (0, [.ref s.heap.size, .int (iI c), v2, v3, v4, v5])) H := hc_
  have hQ := hQ.kept (ho_ _ (by omega))
  have hsz : Array.size H = s.heap.size + 1 := by omega
  refine g_iconst X dX1_clear_13 ?_
  refine g_istore_n (lv' := [(3, .int (iI 0)), (0, .ref a), (1, .int (iI ((n : Nat) : Int))), (2, .int (iI c))]) X dX1_clear_14 rfl hl (by decide) rfl (fun ls hl => ?_)
  have loop_15 : gHide (∀ (n_ : Nat) (k : Nat) (v3_ : Int) (H : Heap) (locs : List Loc), 6 ≤ k + n_ → v3_ = ((k : Nat) : Int) → (k ≤ n) → (kk E s H) → (va_S (cW a s.heap) s.heap H locs) → (ce E a (.inr (0, [.ref s.heap.size, .int (iI c), v2, v3, v4, v5])) H) → (ce E s.heap.size (aQ E 1 n (cRow s.heap.size k)) H) → (cJs E a s.heap.size n c k H) → (Array.size H = s.heap.size + 1 + 6 * k) → ∀ (ls : Array Slot), lv_has ls 4 [(3, .int (iI v3_)), (0, .ref a), (1, .int (iI ((n : Nat) : Int))), (2, .int (iI c))] → W P_ l e_ (gR 3 31 490) s M_ ([.ref a, .int (iI ((n : Nat) : Int)), .int (iI c)] : List Value).toArray bl mt_ c_ H locs (1 + 6 * k) (5 + 97 * k) (MQ bl (gQv (cW a s.heap) (fun H1 => Array.size s.heap ≤ Array.size H1 ∧ GP E (cAd a (Array.size s.heap)) (gBeg n c) H1)) ([.ref a, .int (iI ((n : Nat) : Int)), .int (iI c)] : List Value).toArray s 31 490 (cW a s.heap)) (F0 M_ 15 ls [])) := by
    intro n_
    induction n_ with
    | zero => intro k v3_ H locs hb_ e_v3_ hkb hk hS hO hQ hJ hsz ls hl; exact absurd hb_ (by omega)
    | succ n_ ih_15 =>
      replace ih_15 := gHide.mk ih_15
      intro k v3_ H locs hb_ e_v3_ hkb hk hS hO hQ hJ hsz ls hl
      subst e_v3_
      have hl : lv_has ls 4 [(3, .int (iI ((k : Nat) : Int))), (0, .ref a), (1, .int (iI ((n : Nat) : Int))), (2, .int (iI c))] := hl
      refine g_iload_n X dX1_clear_15 rfl hl 0 rfl ?_
      refine g_iload_n X dX1_clear_16 rfl hl 2 rfl ?_
      refine g_icmp_ge X dX1_clear_17 (tgt := 40) (by decide) (by omega) (fun c17 => ?_) (fun c17 => ?_)
      · have ek : k = n := by omega
        subst ek
        refine W.widen (k := 31) (n := 490) (by omega) (by omega) ?_
        skip
        refine g_aload_n X dX1_clear_40 rfl hl 1 rfl ?_
        refine g_iconst X dX1_clear_41 ?_
        refine g_put X hk hS ⟨Or.inl rfl, hN⟩ in_X1 tyX1 tyX1_ok nmX1 rfl hO 2 (by decide) q144 rfl (ty := .int) (by decide +kernel) (rfl) rfl (Nat.le_of_ble_eq_true rfl) dX1_clear_42 (fun H locs hc_ hk hz_ ho_ hS => ?_)
        have hO : ce E a (.inr (0, [.ref s.heap.size, .int (iI c), .int (iI 0), v3, v4, v5])) H := hc_
        have hQ := hQ.kept (ho_ _ (by omega))
        have hJ := hJ.kept (fun q h1 h2 => ho_ q (by omega))
        have hsz : Array.size H = s.heap.size + 1 + 6 * k := by omega
        refine g_aload_n X dX1_clear_45 rfl hl 1 rfl ?_
        refine g_iconst X dX1_clear_46 ?_
        refine g_put X hk hS ⟨Or.inl rfl, hN⟩ in_X1 tyX1 tyX1_ok nmX1 rfl hO 3 (by decide) q145 rfl (ty := .boolean) (by decide +kernel) (iI_narB _ (by omega)) rfl (Nat.le_of_ble_eq_true rfl) dX1_clear_47 (fun H locs hc_ hk hz_ ho_ hS => ?_)
        have hO : ce E a (.inr (0, [.ref s.heap.size, .int (iI c), .int (iI 0), .int (iI 0), v4, v5])) H := hc_
        have hQ := hQ.kept (ho_ _ (by omega))
        have hJ := hJ.kept (fun q h1 h2 => ho_ q (by omega))
        have hsz : Array.size H = s.heap.size + 1 + 6 * k := by omega
        refine g_aload_n X dX1_clear_50 rfl hl 1 rfl ?_
        refine g_iconst X dX1_clear_51 ?_
        refine g_put X hk hS ⟨Or.inl rfl, hN⟩ in_X1 tyX1 tyX1_ok nmX1 rfl hO 4 (by decide) q146 rfl (ty := .int) (by decide +kernel) (rfl) rfl (Nat.le_of_ble_eq_true rfl) dX1_clear_52 (fun H locs hc_ hk hz_ ho_ hS => ?_)
        have hO : ce E a (.inr (0, [.ref s.heap.size, .int (iI c), .int (iI 0), .int (iI 0), .int (iI 0), v5])) H := hc_
        have hQ := hQ.kept (ho_ _ (by omega))
        have hJ := hJ.kept (fun q h1 h2 => ho_ q (by omega))
        have hsz : Array.size H = s.heap.size + 1 + 6 * k := by omega
        refine g_aload_n X dX1_clear_55 rfl hl 1 rfl ?_
        refine g_iconst X dX1_clear_56 ?_
        refine g_put X hk hS ⟨Or.inl rfl, hN⟩ in_X1 tyX1 tyX1_ok nmX1 rfl hO 5 (by decide) q147 rfl (ty := .int) (by decide +kernel) (rfl) rfl (Nat.le_of_ble_eq_true rfl) dX1_clear_57 (fun H locs hc_ hk hz_ ho_ hS => ?_)
        have hO : ce E a (.inr (0, [.ref s.heap.size, .int (iI c), .int (iI 0), .int (iI 0), .int (iI 0), .int (iI 0)])) H := hc_
        have hQ := hQ.kept (ho_ _ (by omega))
        have hJ := hJ.kept (fun q h1 h2 => ho_ q (by omega))
        have hsz : Array.size H = s.heap.size + 1 + 6 * k := by omega
        exact g_vret X hS (⟨by omega, hJ.GP ha hN hO hQ⟩) ⟨Nat.le_of_ble_eq_true rfl, Nat.le_of_ble_eq_true rfl⟩ dX1_clear_60
      · refine g_aload_n X dX1_clear_20 rfl hl 1 rfl ?_
        refine g_get X hk (v := .ref s.heap.size) in_X1 rfl hO 0 (by decide) q142 rfl dX1_clear_21 ?_
        refine g_iload_n X dX1_clear_24 rfl hl 0 rfl ?_
        refine g_new X hk hS in_X2 tyX2 tyX2_ok (ci := 1) rfl q70 q72 q47 (fs := jNew) (fun i hi => by rcases i with _ | _ | _ | _ | _ | _ | _ | _ | _ | _ | _ | _ | _ | _ | i <;> first | rfl | omega) ⟨by show (1 + 6 * k) + 1 ≤ 31; omega, by show (5 + 97 * k) + 14 ≤ 490; omega⟩ dX1_clear_25 (fun q_ H hq_ hc_ hk hz_ ho_ hS => ?_)
        have hq2_ : q_ = s.heap.size + 1 + 6 * k := by omega
        subst hq2_
        have hN1 : ce E (s.heap.size + 1 + 6 * k) (.inr (1, jNew)) H := hc_
        have hO := hO.kept (ho_ a (by omega))
        have hQ := hQ.kept (ho_ _ (by omega))
        have hJ := hJ.kept (fun q h1 h2 => ho_ q (by omega))
        have hsz : Array.size H = s.heap.size + 1 + 6 * k + 1 := by omega
        refine g_dup X dX1_clear_28 rfl ?_
        refine g_iload_n X dX1_clear_29 rfl hl 3 rfl ?_
        refine g_callv (g_runI X hk (As := [.int (iI c)]) (rest := [.ref (s.heap.size + 1 + 6 * k), .int (iI ((k : Nat) : Int)), .ref s.heap.size]) (p_J1 l E (s.heap.size + 1 + 6 * k) c H hN1 (by omega)) 1 q47 q73 q74 q75 rfl (by decide +kernel) ⟨⟨Nat.le_of_ble_eq_true rfl, Nat.le_of_ble_eq_true rfl⟩, by show ((1 + 6 * k) + 1) + 5 ≤ 31; omega, by show ((5 + 97 * k) + 14) + 83 ≤ 490; omega⟩ rfl rfl hl.1 (Nat.le_of_ble_eq_true rfl) dX1_clear_30) hk hS (fun z h => h.elim (fun h2 => Or.inr (by omega)) (fun h2 => Or.inr (by omega))) (fun z h => h.elim (fun h2 => by omega) (fun h2 => by omega)) (fun H locs hP_ hk hz_ ho_ hS => ?_)
        rw [hsz] at hP_
        obtain ⟨hsz2, hN2, hPh, hC2, hF2, hG2, hM2⟩ := hP_
        have hoo : ∀ x : Nat, x < s.heap.size + 1 + 6 * k → H[x]? = _ := fun x hx => ho_ x (by omega) (fun h => h.elim (fun h2 => by omega) (fun h2 => by omega))
        have hO := hO.kept (hoo a (by omega))
        have hQ := hQ.kept (hoo _ (by omega))
        have hJ := (hJ.kept (fun q h1 h2 => hoo q (by omega))).step hN2 hPh hC2 hF2 hG2 hM2
        have hsz : Array.size H = s.heap.size + 1 + 6 * (k + 1) := by omega
        refine g_aastJ X hk hS ⟨Or.inr (Nat.le_refl _), by omega⟩ hQ hN2 (j := k) rfl (by omega) dX1_clear_33 (fun H locs hc_ hk hz_ ho_ hS => ?_)
        have hQ : ce E s.heap.size (aQ E 1 n (cRow s.heap.size (k + 1))) H := by rw [← cRow_s]; exact hc_
        have hO := hO.kept (ho_ a (by omega))
        have hJ := hJ.kept (fun q h1 h2 => ho_ q (by omega))
        have hsz : Array.size H = s.heap.size + 1 + 6 * (k + 1) := by omega
        refine g_iinc (lv' := [(3, .int (iI (((k : Nat) : Int) + 1))), (0, .ref a), (1, .int (iI ((n : Nat) : Int))), (2, .int (iI c))]) X dX1_clear_34 hl (k := 0) rfl (by decide) rfl (fun ls hl => ?_)
        refine g_goto X dX1_clear_37 (tgt := 15) (by decide) ?_
        refine W.widen (k := 1 + 6 * (k + 1)) (n := 5 + 97 * (k + 1)) (by omega) (by omega) ?_
        exact ih_15.out (k + 1) (((k : Nat) : Int) + 1) H locs (by omega) (by omega) (by omega) hk hS hO hQ hJ hsz _ (lv_sub hl [0, 1, 2, 3] rfl)
  refine W.widen (k := 1 + 6 * 0) (n := 5 + 97 * 0) (by omega) (by omega) ?_
  exact loop_15.out 6 0 0 H locs (by omega) (rfl) (by omega) hk hS hO hQ (fun j hj => absurd hj (Nat.not_lt_zero j)) hsz _ (lv_sub hl [0, 1, 2, 3] rfl)
