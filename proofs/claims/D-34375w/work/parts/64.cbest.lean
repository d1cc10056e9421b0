/-! the corridor: the best by all offsets -/
def baQ (S : GS) (a b : Nat) : GS := if gN S = 3 then gset (gset S 14 1 0 (a : Int)) 14 2 0 (b : Int) else gset S 14 1 0 (a : Int)
def bbI (S : GS) (m : Int) (a : Nat) : Nat → Int
  | 0 => m
  | b + 1 => max (bbI S m a b) (bns (baQ S a b))
def bbB (S : GS) : Nat := if gN S = 3 then (gCyc S).toNat else 1
def bbO (S : GS) : Nat → Int
  | 0 => 0
  | a + 1 => bbI S (bbO S a) a (bbB S)
theorem bbI_le (S : GS) (m : Int) (a : Nat) (x : Int) : ∀ n, bbI S m a n ≤ x ↔ m ≤ x ∧ ∀ b, b < n → bns (baQ S a b) ≤ x := by
  intro n
  induction n with
  | zero => exact ⟨fun h => ⟨h, fun b hb => absurd hb (Nat.not_lt_zero b)⟩, fun h => h.1⟩
  | succ n ih =>
    simp only [bbI]
    rw [Int.max_le, ih]
    constructor
    · rintro ⟨⟨h1, h2⟩, h3⟩
      refine ⟨h1, fun b hb => ?_⟩
      by_cases e : b = n
      · rw [e]; exact h3
      · exact h2 b (by omega)
    · rintro ⟨h1, h2⟩
      exact ⟨⟨h1, fun b hb => h2 b (by omega)⟩, h2 n (by omega)⟩
theorem bbO_le (S : GS) (x : Int) : ∀ n, bbO S n ≤ x ↔ 0 ≤ x ∧ ∀ a, a < n → ∀ b, b < bbB S → bns (baQ S a b) ≤ x := by
  intro n
  induction n with
  | zero => exact ⟨fun h => ⟨h, fun a ha => absurd ha (Nat.not_lt_zero a)⟩, fun h => h.1⟩
  | succ n ih =>
    simp only [bbO]
    rw [bbI_le, ih]
    constructor
    · rintro ⟨⟨h1, h2⟩, h3⟩
      refine ⟨h1, fun a ha => ?_⟩
      by_cases e : a = n
      · rw [e]; exact h3
      · exact h2 a (by omega)
    · rintro ⟨h1, h2⟩
      exact ⟨⟨h1, fun a ha => h2 a (by omega)⟩, h2 n (by omega)⟩
theorem baM_le (S : GS) (x : Int) : ∀ n, baM S n ≤ x ↔ 0 ≤ x ∧ ∀ k, k < n → bns (baS S k) ≤ x := by
  intro n
  induction n with
  | zero => exact ⟨fun h => ⟨h, fun a ha => absurd ha (Nat.not_lt_zero a)⟩, fun h => h.1⟩
  | succ n ih =>
    simp only [baM]
    rw [Int.max_le, ih]
    constructor
    · rintro ⟨⟨h1, h2⟩, h3⟩
      refine ⟨h1, fun a ha => ?_⟩
      by_cases e : a = n
      · rw [e]; exact h3
      · exact h2 a (by omega)
    · rintro ⟨h1, h2⟩
      exact ⟨⟨h1, fun a ha => h2 a (by omega)⟩, h2 n (by omega)⟩
theorem baS_Q {S : GS} (hc : 0 < gCyc S) (k : Nat) : baS S k = baQ S (k % (gCyc S).toNat) (k / (gCyc S).toNat) := by
  obtain ⟨c, e⟩ : ∃ c : Nat, gCyc S = (c : Int) := ⟨(gCyc S).toNat, by omega⟩
  unfold baS baQ
  rw [e]
  simp only [Int.toNat_natCast, Int.natCast_emod, Int.natCast_ediv]
theorem bb_ba {S : GS} (hI : gI S) : bbO S (gCyc S).toNat = baM S (baN S).toNat := by
  have hc := hI.2.1
  obtain ⟨c, e⟩ : ∃ c : Nat, gCyc S = (c : Int) := ⟨(gCyc S).toNat, by omega⟩
  have hN : (baN S).toNat = (gCyc S).toNat * bbB S := by
    unfold baN bbB
    rw [e]
    split
    · rw [show (c : Int) * (c : Int) = ((c * c : Nat) : Int) by rw [Int.natCast_mul]]
      rfl
    · rw [Int.mul_one, Nat.mul_one]
  have hc2 : (gCyc S).toNat = c := by omega
  refine Int.le_antisymm ((bbO_le S _ _).mpr ⟨((baM_le S _ _).mp (Int.le_refl _)).1, fun a ha b hb => ?_⟩) ((baM_le S _ _).mpr ⟨((bbO_le S _ _).mp (Int.le_refl _)).1, fun k hk => ?_⟩)
  · have h1 := ((baM_le S _ _).mp (Int.le_refl (baM S (baN S).toNat))).2 (a + (gCyc S).toNat * b) (by
      rw [hN]
      have h2 := Nat.mul_le_mul_left (gCyc S).toNat (show b + 1 ≤ bbB S by omega)
      rw [Nat.mul_add, Nat.mul_one] at h2
      omega)
    rw [baS_Q (by omega), Nat.add_mul_mod_self_left, Nat.mod_eq_of_lt ha, Nat.add_mul_div_left _ _ (by omega), Nat.div_eq_of_lt ha, Nat.zero_add] at h1
    exact h1
  · rw [baS_Q (by omega)]
    exact ((bbO_le S _ _).mp (Int.le_refl _)).2 _ (Nat.mod_lt _ (by omega)) _ (Nat.div_lt_of_lt_mul (by rw [← hN]; exact hk))
/-- but for the offsets from junction k on, nothing has changed -/
def rsE (S T : GS) (k : Nat) : Prop := T.2 = S.2 ∧ ∀ f j q, ¬ (f = 14 ∧ q = 0 ∧ k ≤ j ∧ j < gN S) → T.1 f j q = S.1 f j q
section RS
variable {S T : GS} {k : Nat}
theorem rsE.rf (S : GS) (k : Nat) : rsE S S k := ⟨rfl, fun _ _ _ _ => rfl⟩
theorem rsE.n (h : rsE S T k) : gN T = gN S := by show T.2 0 0 = S.2 0 0; rw [h.1]
theorem rsE.cyc (h : rsE S T k) : gCyc T = gCyc S := h.2 31 0 0 (by omega)
theorem rsE.set (h : rsE S T k) {j : Nat} {z : Int} (hj : k ≤ j ∧ j < gN S) : rsE S (gset T 14 j 0 z) k := by
  refine ⟨h.1, fun f i q hn => ?_⟩
  show (if f = 14 ∧ i = j ∧ q = 0 then z else T.1 f i q) = _
  rw [if_neg (fun e => hn ⟨e.1, e.2.2, by omega⟩)]
  exact h.2 f i q hn
theorem rsE.le (h : rsE S T k) {k2 : Nat} (hk : k2 ≤ k) : rsE S T k2 := ⟨h.1, fun f j q hn => h.2 f j q (fun e => hn ⟨e.1, e.2.1, by omega, e.2.2.2⟩)⟩
theorem rsE.back (h : rsE S T k) : rsE S (gset T 14 k 0 (gOff S k)) (k + 1) := by
  refine ⟨h.1, fun f i q hn => ?_⟩
  show (if f = 14 ∧ i = k ∧ q = 0 then gOff S k else T.1 f i q) = _
  by_cases e : f = 14 ∧ i = k ∧ q = 0
  · rw [if_pos e, e.1, e.2.1, e.2.2]
  · rw [if_neg e]
    exact h.2 f i q (fun e2 => hn ⟨e2.1, e2.2.1, by omega, e2.2.2.2⟩)
theorem rsE.end (h : rsE S T k) (hk : gN S ≤ k) : T = S := by
  refine Prod.ext ?_ h.1
  funext f j q
  exact h.2 f j q (by omega)
theorem rsE.Q (h : rsE S T 1) {a b : Nat} (hn : 2 ≤ gN S ∧ gN S ≤ 3) (h1 : gOff T 1 = (a : Int)) : gset T 14 (gN S - 1) 0 (if gN S = 3 then (b : Int) else (a : Int)) = baQ S a b := by
  unfold baQ
  refine Prod.ext ?_ ?_
  · funext f j q
    by_cases h3 : gN S = 3
    · rw [if_pos h3, if_pos h3]
      show (if f = 14 ∧ j = gN S - 1 ∧ q = 0 then (b : Int) else T.1 f j q) = (if f = 14 ∧ j = 2 ∧ q = 0 then (b : Int) else if f = 14 ∧ j = 1 ∧ q = 0 then (a : Int) else S.1 f j q)
      rw [show gN S - 1 = 2 by omega]
      by_cases e : f = 14 ∧ j = 2 ∧ q = 0
      · rw [if_pos e, if_pos e]
      · rw [if_neg e, if_neg e]
        by_cases e1 : f = 14 ∧ j = 1 ∧ q = 0
        · rw [if_pos e1, e1.1, e1.2.1, e1.2.2]; exact h1
        · rw [if_neg e1]
          exact h.2 f j q (fun e2 => by omega)
    · rw [if_neg h3, if_neg h3]
      show (if f = 14 ∧ j = gN S - 1 ∧ q = 0 then (a : Int) else T.1 f j q) = (if f = 14 ∧ j = 1 ∧ q = 0 then (a : Int) else S.1 f j q)
      rw [show gN S - 1 = 1 by omega]
      by_cases e1 : f = 14 ∧ j = 1 ∧ q = 0
      · rw [if_pos e1, if_pos e1]
      · rw [if_neg e1, if_neg e1]
        exact h.2 f j q (fun e2 => by omega)
  · split <;> exact h.1
theorem baQ_rs (S : GS) (hn : 2 ≤ gN S) (a b : Nat) : rsE S (baQ S a b) 1 := by
  unfold baQ
  split
  · exact ((rsE.rf S 1).set ⟨by omega, by omega⟩).set ⟨by omega, by omega⟩
  · exact (rsE.rf S 1).set ⟨by omega, by omega⟩
theorem baQ_1 (S : GS) (a b : Nat) : gOff (baQ S a b) 1 = (a : Int) := by
  unfold baQ
  split
  · show (if (14 : Nat) = 14 ∧ (1 : Nat) = 2 ∧ (0 : Nat) = 0 then (b : Int) else if (14 : Nat) = 14 ∧ (1 : Nat) = 1 ∧ (0 : Nat) = 0 then (a : Int) else S.1 14 1 0) = _
    rw [if_neg (by omega), if_pos ⟨rfl, rfl, rfl⟩]
  · exact gset_s S 14 1 0 _
theorem baQ_off {a b : Nat} (hI : gI S) (ha : (a : Int) < gCyc S) (hb : (b : Int) < gCyc S) : offE S (baQ S a b) := by
  unfold baQ
  split
  · exact ((offE.rf hI).set ⟨by omega, ha⟩).set ⟨by omega, hb⟩
  · exact (offE.rf hI).set ⟨by omega, ha⟩
end RS
theorem bbI_b {S : GS} (hI : gI S) {m : Int} {a : Nat} (ha : (a : Int) < gCyc S) (hm : 0 ≤ m ∧ m ≤ 180) : ∀ n : Nat, (n : Int) ≤ gCyc S → 0 ≤ bbI S m a n ∧ bbI S m a n ≤ 180 := by
  intro n
  induction n with
  | zero => intro _; exact hm
  | succ n ih =>
    intro hn
    have h1 := ih (by omega)
    have h2 := bns_b ((baQ_off (b := n) hI ha (by omega)).gI hI)
    simp only [bbI]
    omega
theorem bbO_b {S : GS} (hI : gI S) : ∀ a : Nat, (a : Int) ≤ gCyc S → 0 ≤ bbO S a ∧ bbO S a ≤ 180 := by
  intro a
  have hc := hI.2.1
  induction a with
  | zero => intro _; exact ⟨Int.le_refl 0, show (0 : Int) ≤ 180 by decide⟩
  | succ a ih =>
    intro ha
    exact bbI_b hI (by omega) (ih (by omega)) _ (by unfold bbB; split <;> omega)
set_option maxHeartbeats 4000000 in
theorem p_bestByAll (l : Launch) (E : EP) (hst : l.stackTraces = false) (ad : Nat → Nat → Nat) (S : GS) (H : Heap) (hP : GP E ad S H) (hI : gI S) : gCi l E yX1_bestByAll cX1_bestByAll 6 .int 9 24 970 H [.ref (ad 6 0)] (gW (gN S) ad H) (fun z H1 => erA S = 0 ∧ z = baM S (baN S).toNat ∧ GP E ad S H1) (xC (erA S) [nSt]) := by
  refine g_metX (by decide) (Nat.le_of_ble_eq_true rfl) (fun P_ e_ s M_ bl mt_ c_ ls X hno_ hk hh hl => ?_)
  subst hh
  have X : gX P_ s M_ mt_ c_ cX1_bestByAll 6 ([.ref (ad 6 0)] : List Value).toArray RX1 (some .int) := X
  have hl : lv_has ls 6 [(0, .ref (ad 6 0))] := hl
  have hS : va_S (nA s.heap) s.heap s.heap [] := va_S.rf
  have hN0 : eN E ≤ s.heap.size := hk.N
  have hA0_ := GP.lts hP
  have hn5 := hI.1.1
  have hc := hI.2.1
  have hrun := hI.1.2.1
  have hnow := hI.1.2.2
  refine g_aload_n X dX1_bestByAll_0 rfl hl 0 rfl ?_
  refine g_xcallvE (g_xrunV X hk (As := []) (rest := []) rfl (GP.X hP) (p_requirePlans l E hst ad S s.heap hP hI) 0 (lw_V q392 q394 qs5 q46 q395) (by decide +kernel) ⟨⟨Nat.le_of_ble_eq_true rfl, Nat.le_of_ble_eq_true rfl⟩, Nat.le_of_ble_eq_true rfl, Nat.le_of_ble_eq_true rfl⟩ rfl rfl hl.1 (Nat.le_of_ble_eq_true rfl) dX1_bestByAll_1) X hno_ hk hS (fun q h => Nat.le_trans hS.1 h) (fun q h => Nat.le_trans hk.N h) (fun q h => Or.inr h) (fun Ex h => by obtain ⟨h1, rfl⟩ := h.one; exact ⟨0, by unfold erA; revert h1; unfold erD; grind, rfl⟩) ⟨Nat.le_of_ble_eq_true rfl, Nat.le_of_ble_eq_true rfl⟩ (fun locs hB1 hS => ?_)
  have hLs := alP_L hB1
  have join_18 : gHide (∀ (z : Int) (ls : Array Slot), z = (bZ (decide (gN S ≤ 3))) → lv_has ls 6 [(0, .ref (ad 6 0))] → W P_ l e_ (gR 9 24 970) s M_ ([.ref (ad 6 0)] : List Value).toArray bl mt_ c_ s.heap locs (0 + 1) (0 + 6) (vx_MQ bl (gQi (gW (gN S) ad s.heap) (fun z H1 => erA S = 0 ∧ z = baM S (baN S).toNat ∧ GP E ad S H1)) (gXD (xC (erA S) [nSt])) ([.ref (ad 6 0)] : List Value).toArray s 24 970 (gW (gN S) ad s.heap)) (F0 M_ 18 ls [.int (iI z)])) := by
    intro z ls e_z hl
    subst e_z
    have hl : lv_has ls 6 [(0, .ref (ad 6 0))] := hl
    have hz18 := bZ_le (decide (gN S ≤ 3))
    refine (show (bZ (decide (gN S ≤ 3))) = 0 ∨ (bZ (decide (gN S ≤ 3))) = 1 by omega).elim (fun z18 => ?_) (fun z18 => ?_)
    · exact g_thxS X hno_ hk (As := [.int (iI (bZ (decide (gN S ≤ 3))))]) (rest := []) (rq_State_t l E hst s.heap (bZ (decide (gN S ≤ 3))) z18) 1 (lw_S q326 q327 q46 q328) (by decide +kernel) ⟨⟨Nat.le_of_ble_eq_true rfl, Nat.le_of_ble_eq_true rfl⟩, Nat.le_of_ble_eq_true rfl, Nat.le_of_ble_eq_true rfl⟩ rfl rfl hl.1 (Nat.le_of_ble_eq_true rfl) dX1_bestByAll_18 hS (fun q h => Or.inr h) (⟨0, by unfold erA; grind [bZ], rfl⟩) ⟨Nat.le_of_ble_eq_true rfl, Nat.le_of_ble_eq_true rfl⟩
    refine g_callE (g_runS X hk (As := [.int (iI (bZ (decide (gN S ≤ 3))))]) (rest := []) (rq_State l E s.heap (bZ (decide (gN S ≤ 3))) z18) 1 (lw_S q326 q327 q46 q328) (by decide +kernel) ⟨⟨Nat.le_of_ble_eq_true rfl, Nat.le_of_ble_eq_true rfl⟩, Nat.le_of_ble_eq_true rfl, Nat.le_of_ble_eq_true rfl⟩ rfl rfl hl.1 (Nat.le_of_ble_eq_true rfl) dX1_bestByAll_18) ?_
    have h18 : gN S ≤ 3 := by grind [bZ]
    have hz : erA S = 0 := by unfold erA; grind
    refine g_aload_n X dX1_bestByAll_21 rfl hl 0 rfl ?_
    have hs0_ := hS.1
    refine g_callr (g_runV X hk (As := []) (rest := []) rfl (GP.X hP) (p_mainGreens l E ad S s.heap hP hI hLs) 0 (lw_V q411 q413 qs6 q46 q414) (by decide +kernel) ⟨⟨Nat.le_of_ble_eq_true rfl, Nat.le_of_ble_eq_true rfl⟩, Nat.le_of_ble_eq_true rfl, Nat.le_of_ble_eq_true rfl⟩ rfl rfl hl.1 (Nat.le_of_ble_eq_true rfl) dX1_bestByAll_22) hk hS (fun q h => Nat.le_trans hS.1 h) (fun q h => Nat.le_trans hk.N h) (fun qm H locs hP_ hk hz_ ho_ hS => ?_)
    replace ho_ := lk_nA (fun q h => h) ho_
    obtain ⟨f_, hM⟩ := hP_
    have lk_ := lk_new (s0 := s.heap.size) ho_
    have hP := GP.new hP ho_
    skip
    refine g_astore_n (lv' := [(1, .ref qm), (0, .ref (ad 6 0))]) X dX1_bestByAll_25 rfl hl (by decide) rfl (fun ls hl => ?_)
    refine g_aload_n X dX1_bestByAll_26 rfl hl 1 rfl ?_
    refine g_get X hk (v := .ref (ad 7 0)) in_X1 rfl (GP.X hP) 0 (by decide) q142 (rfl) dX1_bestByAll_27 ?_
    refine g_alenQ X hk (n := (gN S)) (GP.Q hP) rfl dX1_bestByAll_30 ?_
    have hs0_ := hS.1
    have hM := hM.lt
    refine g_newI X hk hS (N := (gN S)) (by first | rfl | omega) (by omega) ⟨Nat.le_of_ble_eq_true rfl, by show ((0 + 6) + 950) + (gN S) ≤ 970; omega⟩ dX1_bestByAll_31 (fun qb H hq_ hc_ hk hz_ ho_ hS => ?_)
    have hF : ce E qb (aI E (gN S) (fun _ => 0)) H := hc_
    have hF_g : s.heap.size ≤ qb := by omega
    rw [← hq_] at hM
    have lk_ := lk_new (s0 := s.heap.size) ho_
    have hP := GP.new hP ho_
    have hM := hM.kp lk_
    refine W.widen (k := (((0 + 1) + 21) + 1)) (n := (((0 + 6) + 950) + 5)) (Nat.le_refl _) (by show ((0 + 6) + 950) + (gN S) ≤ (((0 + 6) + 950) + 5); omega) ?_
    refine g_astore_n (lv' := [(2, .ref qb), (1, .ref qm), (0, .ref (ad 6 0))]) X dX1_bestByAll_33 rfl hl (by decide) rfl (fun ls hl => ?_)
    refine g_iconst X dX1_bestByAll_34 ?_
    refine g_istore_n (lv' := [(3, .int (iI 0)), (2, .ref qb), (1, .ref qm), (0, .ref (ad 6 0))]) X dX1_bestByAll_35 rfl hl (by decide) rfl (fun ls hl => ?_)
    have loop_36 : gHide (∀ (n_ : Nat) (k : Nat) (v3 : Int) (H : Heap) (locs : List Loc), gN S + 1 ≤ k + n_ → v3 = ((k : Nat) : Int) → (k ≤ gN S) → (kk E s H) → (GP E ad S H) → (va_S (nA s.heap) s.heap H locs) → (mgK E S s.heap.size qb qm f_ (2 * gN S) H) → (ce E qb (aI E (gN S) (fun i => if i < k then gOff S i else 0)) H) → ∀ (ls : Array Slot), lv_has ls 6 [(3, .int (iI v3)), (2, .ref qb), (1, .ref qm), (0, .ref (ad 6 0))] → W P_ l e_ (gR 9 24 970) s M_ ([.ref (ad 6 0)] : List Value).toArray bl mt_ c_ H locs (((0 + 1) + 21) + 1) (((0 + 6) + 950) + 5) (vx_MQ bl (gQi (gW (gN S) ad s.heap) (fun z H1 => erA S = 0 ∧ z = baM S (baN S).toNat ∧ GP E ad S H1)) (gXD (xC (erA S) [nSt])) ([.ref (ad 6 0)] : List Value).toArray s 24 970 (gW (gN S) ad s.heap)) (F0 M_ 36 ls [])) := by
      intro n_
      induction n_ with
      | zero => intro k v3 H locs hb_ e_v3 hkb hk hP hS hM hF ls hl; exact absurd hb_ (by omega)
      | succ n_ ih_36 =>
        replace ih_36 := gHide.mk ih_36
        intro k v3 H locs hb_ e_v3 hkb hk hP hS hM hF ls hl
        subst e_v3
        have hl : lv_has ls 6 [(3, .int (iI ((k : Nat) : Int))), (2, .ref qb), (1, .ref qm), (0, .ref (ad 6 0))] := hl
        refine g_iload_n X dX1_bestByAll_36 rfl hl 0 rfl ?_
        refine g_aload_n X dX1_bestByAll_37 rfl hl 3 rfl ?_
        refine g_get X hk (v := .ref (ad 7 0)) in_X1 rfl (GP.X hP) 0 (by decide) q142 (rfl) dX1_bestByAll_38 ?_
        refine g_alenQ X hk (n := (gN S)) (GP.Q hP) rfl dX1_bestByAll_41 ?_
        refine g_icmp_ge X dX1_bestByAll_42 (tgt := 63) (by decide) (by omega) (fun c42 => ?_) (fun c42 => ?_)
        · have ek63 : k = gN S := by omega
          have hF : ce E qb (aI E (gN S) (fun i => gOff S i)) H := ce_I hF (fun i hi => by rw [if_pos (by omega)])
          have hS : va_S (gW (gN S) ad s.heap) s.heap H _ := g_ws hS (fun q h => Or.inr h)
          refine g_iconst X dX1_bestByAll_63 ?_
          refine g_istore_n (lv' := [(3, .int (iI 0)), (2, .ref qb), (1, .ref qm), (0, .ref (ad 6 0))]) X dX1_bestByAll_64 rfl hl (by decide) rfl (fun ls hl => ?_)
          refine g_iconst X dX1_bestByAll_65 ?_
          refine g_istore (lv' := [(4, .int (iI 0)), (3, .int (iI 0)), (2, .ref qb), (1, .ref qm), (0, .ref (ad 6 0))]) X dX1_bestByAll_66 hl (by decide) rfl (fun ls hl => ?_)
          have loop_68 : gHide (∀ (n_ : Nat) (a : Nat) (T : GS) (v4 : Int) (v3 : Int) (H : Heap) (locs : List Loc), (gCyc S).toNat + 1 ≤ a + n_ → v4 = ((a : Nat) : Int) → v3 = (bbO S a) → ((a : Int) ≤ gCyc S) → (rsE S T 1) → (kk E s H) → (GP E ad T H) → (va_S (gW (gN S) ad s.heap) s.heap H locs) → (mgK E S s.heap.size qb qm f_ (2 * gN S) H) → (ce E qb (aI E (gN S) (fun i => gOff S i)) H) → ∀ (ls : Array Slot), lv_has ls 6 [(4, .int (iI v4)), (3, .int (iI v3)), (2, .ref qb), (1, .ref qm), (0, .ref (ad 6 0))] → W P_ l e_ (gR 9 24 970) s M_ ([.ref (ad 6 0)] : List Value).toArray bl mt_ c_ H locs (((0 + 1) + 21) + 1) (((0 + 6) + 950) + 5) (vx_MQ bl (gQi (gW (gN S) ad s.heap) (fun z H1 => erA S = 0 ∧ z = baM S (baN S).toNat ∧ GP E ad S H1)) (gXD (xC (erA S) [nSt])) ([.ref (ad 6 0)] : List Value).toArray s 24 970 (gW (gN S) ad s.heap)) (F0 M_ 68 ls [])) := by
            intro n_
            induction n_ with
            | zero => intro a T v4 v3 H locs hb_ e_v4 e_v3 hab hT hk hP hS hM hF ls hl; exact absurd hb_ (by omega)
            | succ n_ ih_68 =>
              replace ih_68 := gHide.mk ih_68
              intro a T v4 v3 H locs hb_ e_v4 e_v3 hab hT hk hP hS hM hF ls hl
              subst e_v4
              subst e_v3
              have hl : lv_has ls 6 [(4, .int (iI ((a : Nat) : Int))), (3, .int (iI (bbO S a))), (2, .ref qb), (1, .ref qm), (0, .ref (ad 6 0))] := hl
              have hnT := hT.n
              have hcT := hT.cyc
              have hba := bbO_b hI a hab
              refine g_iload X dX1_bestByAll_68 hl 0 rfl ?_
              refine g_aload_n X dX1_bestByAll_70 rfl hl 4 rfl ?_
              refine g_get X hk (v := .int (iI (gCyc T))) in_X1 rfl (GP.X hP) 1 (by decide) q143 (rfl) dX1_bestByAll_71 ?_
              refine g_icmp_ge X dX1_bestByAll_74 (tgt := 166) (by decide) (by omega) (fun c74 => ?_) (fun c74 => ?_)
              · have ea : a = (gCyc S).toNat := by omega
                refine g_iconst X dX1_bestByAll_166 ?_
                refine g_istore (lv' := [(4, .int (iI 0)), (3, .int (iI (bbO S a))), (2, .ref qb), (1, .ref qm), (0, .ref (ad 6 0))]) X dX1_bestByAll_167 hl (by decide) rfl (fun ls hl => ?_)
                have loop_169 : gHide (∀ (n_ : Nat) (k : Nat) (T3 : GS) (v4 : Int) (H : Heap) (locs : List Loc), gN S + 1 ≤ k + n_ → v4 = ((k : Nat) : Int) → (k ≤ gN S) → (rsE S T3 k) → (kk E s H) → (GP E ad T3 H) → (va_S (gW (gN S) ad s.heap) s.heap H locs) → (mgK E S s.heap.size qb qm f_ (2 * gN S) H) → (ce E qb (aI E (gN S) (fun i => gOff S i)) H) → ∀ (ls : Array Slot), lv_has ls 6 [(4, .int (iI v4)), (3, .int (iI (bbO S a))), (2, .ref qb), (1, .ref qm), (0, .ref (ad 6 0))] → W P_ l e_ (gR 9 24 970) s M_ ([.ref (ad 6 0)] : List Value).toArray bl mt_ c_ H locs (((0 + 1) + 21) + 1) (((0 + 6) + 950) + 5) (vx_MQ bl (gQi (gW (gN S) ad s.heap) (fun z H1 => erA S = 0 ∧ z = baM S (baN S).toNat ∧ GP E ad S H1)) (gXD (xC (erA S) [nSt])) ([.ref (ad 6 0)] : List Value).toArray s 24 970 (gW (gN S) ad s.heap)) (F0 M_ 169 ls [])) := by
                  intro n_
                  induction n_ with
                  | zero => intro k T3 v4 H locs hb_ e_v4 hkb hT3 hk hP hS hM hF ls hl; exact absurd hb_ (by omega)
                  | succ n_ ih_169 =>
                    replace ih_169 := gHide.mk ih_169
                    intro k T3 v4 H locs hb_ e_v4 hkb hT3 hk hP hS hM hF ls hl
                    subst e_v4
                    have hl : lv_has ls 6 [(4, .int (iI ((k : Nat) : Int))), (3, .int (iI (bbO S a))), (2, .ref qb), (1, .ref qm), (0, .ref (ad 6 0))] := hl
                    have hnT3 := hT3.n
                    refine g_iload X dX1_bestByAll_169 hl 0 rfl ?_
                    refine g_aload_n X dX1_bestByAll_171 rfl hl 4 rfl ?_
                    refine g_get X hk (v := .ref (ad 7 0)) in_X1 rfl (GP.X hP) 0 (by decide) q142 (rfl) dX1_bestByAll_172 ?_
                    refine g_alenQ X hk (n := (gN T3)) (GP.Q hP) rfl dX1_bestByAll_175 ?_
                    refine g_icmp_ge X dX1_bestByAll_176 (tgt := 199) (by decide) (by omega) (fun c176 => ?_) (fun c176 => ?_)
                    · have eT := hT3.end (by omega)
                      rw [eT] at hP
                      refine g_iload_n X dX1_bestByAll_199 rfl hl 1 rfl ?_
                      exact vx_ret (g_iret X hS (⟨hz, by rw [ea]; exact bb_ba hI, hP⟩) ⟨Nat.le_of_ble_eq_true rfl, Nat.le_of_ble_eq_true rfl⟩ dX1_bestByAll_200)
                    · refine g_aload_n X dX1_bestByAll_179 rfl hl 4 rfl ?_
                      refine g_get X hk (v := .ref (ad 7 0)) in_X1 rfl (GP.X hP) 0 (by decide) q142 (rfl) dX1_bestByAll_180 ?_
                      refine g_iload X dX1_bestByAll_183 hl 0 rfl ?_
                      refine g_aald X hk (j := k) (n := (gN T3)) (q := (ad 0 k)) (GP.Q hP) (cA := 1) rfl rfl (rfl) (by omega) (rfl) dX1_bestByAll_185 ?_
                      refine g_aload_n X dX1_bestByAll_186 rfl hl 2 rfl ?_
                      refine g_iload X dX1_bestByAll_187 hl 0 rfl ?_
                      refine g_ialdv X hk (j := k) (n := (gN S)) (f := (fun i => gOff S i)) (v := (gOff S k)) hF (rfl) (by omega) (rfl) dX1_bestByAll_189 ?_
                      refine g_putN X hk hS ⟨Or.inl ⟨0, k, gv_0 (by decide) (by omega), rfl⟩, hP.2.2 _ _ (gv_0 (by decide) (by omega))⟩ in_X2 tyX2 tyX2_ok nmX2 rfl (GP.J hP (by omega)) 4 (by decide) 4 rfl rfl (ty := .int) (by decide +kernel) rfl rfl (Nat.le_of_ble_eq_true rfl) dX1_bestByAll_190 (fun H locs hc_ hk hz_ ho_ hS => ?_)
                      have lk_ := lk_put (s0 := s.heap.size) (H := _) hA0_ (gv_0 (by decide) (by omega)) ho_
                      have hP : GP E ad (gset T3 14 k 0 (gOff S k)) H := GP.putJ hP (by omega) 4 rfl hc_ ho_
                      have hF := hF.kept (lk_ _ hF_g hF.lt)
                      have hM := hM.kp lk_
                      refine g_iinc (lv' := [(4, .int (iI (((k : Nat) : Int) + 1))), (3, .int (iI (bbO S a))), (2, .ref qb), (1, .ref qm), (0, .ref (ad 6 0))]) X dX1_bestByAll_193 hl (k := 0) rfl (by decide) rfl (fun ls hl => ?_)
                      refine g_goto X dX1_bestByAll_196 (tgt := 169) (by decide) ?_
                      exact ih_169.out (k + 1) (gset T3 14 k 0 (gOff S k)) (((k : Nat) : Int) + 1) H locs (by omega) (by omega) (by omega) hT3.back hk hP hS hM hF _ (lv_sub hl [0, 1, 2, 3, 4] rfl)
                exact loop_169.out (gN S + 1) 0 T 0 H locs (by omega) (rfl) (by omega) (hT.le (by omega)) hk hP hS hM hF _ (lv_sub hl [0, 1, 2, 3, 4] rfl)
              · refine g_aload_n X dX1_bestByAll_77 rfl hl 4 rfl ?_
                refine g_get X hk (v := .ref (ad 7 0)) in_X1 rfl (GP.X hP) 0 (by decide) q142 (rfl) dX1_bestByAll_78 ?_
                refine g_iconst X dX1_bestByAll_81 ?_
                refine g_aald X hk (j := 1) (n := (gN T)) (q := (ad 0 1)) (GP.Q hP) (cA := 1) rfl rfl (rfl) (by omega) (rfl) dX1_bestByAll_82 ?_
                refine g_iload X dX1_bestByAll_83 hl 0 rfl ?_
                refine g_putN X hk hS ⟨Or.inl ⟨0, 1, gv_0 (by decide) (by omega), rfl⟩, hP.2.2 _ _ (gv_0 (by decide) (by omega))⟩ in_X2 tyX2 tyX2_ok nmX2 rfl (GP.J hP (by omega)) 4 (by decide) 4 rfl rfl (ty := .int) (by decide +kernel) rfl rfl (Nat.le_of_ble_eq_true rfl) dX1_bestByAll_85 (fun H locs hc_ hk hz_ ho_ hS => ?_)
                have lk_ := lk_put (s0 := s.heap.size) (H := _) hA0_ (gv_0 (by decide) (by omega)) ho_
                have hP : GP E ad (gset T 14 1 0 ((a : Nat) : Int)) H := GP.putJ hP (by omega) 4 rfl hc_ ho_
                have hF := hF.kept (lk_ _ hF_g hF.lt)
                have hM := hM.kp lk_
                obtain ⟨Tq, eTq⟩ : ∃ T_ : GS, T_ = gset T 14 1 0 ((a : Nat) : Int) := ⟨_, rfl⟩
                have hP : GP E ad Tq H := by rw [eTq]; exact hP
                have hTq : rsE S Tq 1 := by rw [eTq]; exact hT.set ⟨by omega, by omega⟩
                have hTa : gOff Tq 1 = ((a : Nat) : Int) := by rw [eTq]; exact gset_s T 14 1 0 _
                refine g_iconst X dX1_bestByAll_88 ?_
                refine g_istore (lv' := [(5, .int (iI 0)), (4, .int (iI ((a : Nat) : Int))), (3, .int (iI (bbO S a))), (2, .ref qb), (1, .ref qm), (0, .ref (ad 6 0))]) X dX1_bestByAll_89 hl (by decide) rfl (fun ls hl => ?_)
                have loop_91 : gHide (∀ (n_ : Nat) (b : Nat) (T2 : GS) (v5 : Int) (v3 : Int) (H : Heap) (locs : List Loc), 92 ≤ b + n_ → v5 = ((b : Nat) : Int) → v3 = (bbI S (bbO S a) a b) → ((b : Int) ≤ (if gN S = 3 then gCyc S else 1)) → (rsE S T2 1) → (gOff T2 1 = ((a : Nat) : Int)) → (kk E s H) → (GP E ad T2 H) → (va_S (gW (gN S) ad s.heap) s.heap H locs) → (mgK E S s.heap.size qb qm f_ (2 * gN S) H) → (ce E qb (aI E (gN S) (fun i => gOff S i)) H) → ∀ (ls : Array Slot), lv_has ls 6 [(5, .int (iI v5)), (3, .int (iI v3)), (4, .int (iI ((a : Nat) : Int))), (2, .ref qb), (1, .ref qm), (0, .ref (ad 6 0))] → W P_ l e_ (gR 9 24 970) s M_ ([.ref (ad 6 0)] : List Value).toArray bl mt_ c_ H locs (((0 + 1) + 21) + 1) (((0 + 6) + 950) + 5) (vx_MQ bl (gQi (gW (gN S) ad s.heap) (fun z H1 => erA S = 0 ∧ z = baM S (baN S).toNat ∧ GP E ad S H1)) (gXD (xC (erA S) [nSt])) ([.ref (ad 6 0)] : List Value).toArray s 24 970 (gW (gN S) ad s.heap)) (F0 M_ 91 ls [])) := by
                  intro n_
                  induction n_ with
                  | zero => intro b T2 v5 v3 H locs hb_ e_v5 e_v3 hbb hT2 hT2a hk hP hS hM hF ls hl; exact absurd hb_ (by omega)
                  | succ n_ ih_91 =>
                    replace ih_91 := gHide.mk ih_91
                    intro b T2 v5 v3 H locs hb_ e_v5 e_v3 hbb hT2 hT2a hk hP hS hM hF ls hl
                    subst e_v5
                    subst e_v3
                    have hl : lv_has ls 6 [(5, .int (iI ((b : Nat) : Int))), (3, .int (iI (bbI S (bbO S a) a b))), (4, .int (iI ((a : Nat) : Int))), (2, .ref qb), (1, .ref qm), (0, .ref (ad 6 0))] := hl
                    have hnT2 := hT2.n
                    have hcT2 := hT2.cyc
                    have hbi := bbI_b (a := a) hI (by omega) hba b (by revert hbb; split <;> omega)
                    refine g_iload X dX1_bestByAll_91 hl 0 rfl ?_
                    have join_110 : gHide (∀ (z : Int) (ls : Array Slot), z = (if gN S = 3 then gCyc S else 1) → lv_has ls 6 [(5, .int (iI ((b : Nat) : Int))), (3, .int (iI (bbI S (bbO S a) a b))), (4, .int (iI ((a : Nat) : Int))), (2, .ref qb), (1, .ref qm), (0, .ref (ad 6 0))] → W P_ l e_ (gR 9 24 970) s M_ ([.ref (ad 6 0)] : List Value).toArray bl mt_ c_ H locs (((0 + 1) + 21) + 1) (((0 + 6) + 950) + 5) (vx_MQ bl (gQi (gW (gN S) ad s.heap) (fun z H1 => erA S = 0 ∧ z = baM S (baN S).toNat ∧ GP E ad S H1)) (gXD (xC (erA S) [nSt])) ([.ref (ad 6 0)] : List Value).toArray s 24 970 (gW (gN S) ad s.heap)) (F0 M_ 110 ls [.int (iI z), .int (iI ((b : Nat) : Int))])) := by
                      intro z ls e_z hl
                      subst e_z
                      have hl : lv_has ls 6 [(5, .int (iI ((b : Nat) : Int))), (3, .int (iI (bbI S (bbO S a) a b))), (4, .int (iI ((a : Nat) : Int))), (2, .ref qb), (1, .ref qm), (0, .ref (ad 6 0))] := hl
                      have h110 : (1 : Int) ≤ (if gN S = 3 then gCyc S else 1) ∧ (if gN S = 3 then gCyc S else 1) ≤ 90 := by split <;> omega
                      refine g_icmp_ge X dX1_bestByAll_110 (tgt := 160) (by decide) (by omega) (fun c110 => ?_) (fun c110 => ?_)
                      · have eb : b = bbB S := by unfold bbB; revert c110; split <;> omega
                        refine g_iinc (lv' := [(4, .int (iI (((a : Nat) : Int) + 1))), (5, .int (iI ((b : Nat) : Int))), (3, .int (iI (bbI S (bbO S a) a b))), (2, .ref qb), (1, .ref qm), (0, .ref (ad 6 0))]) X dX1_bestByAll_160 hl (k := 2) rfl (by decide) rfl (fun ls hl => ?_)
                        refine g_goto X dX1_bestByAll_163 (tgt := 68) (by decide) ?_
                        exact ih_68.out (a + 1) T2 (((a : Nat) : Int) + 1) (bbI S (bbO S a) a b) H locs (by omega) (by omega) (by rw [eb]; rfl) (by omega) hT2 hk hP hS hM hF _ (lv_sub hl [0, 2, 3, 4, 5] rfl)
                      · have hbc : (b : Int) < gCyc S := by revert c110; split <;> omega
                        have hqo := baQ_off (a := a) (b := b) hI (by omega) hbc
                        have hIq := hqo.gI hI
                        have hbq := bns_b hIq
                        refine g_aload_n X dX1_bestByAll_113 rfl hl 5 rfl ?_
                        refine g_get X hk (v := .ref (ad 7 0)) in_X1 rfl (GP.X hP) 0 (by decide) q142 (rfl) dX1_bestByAll_114 ?_
                        refine g_aload_n X dX1_bestByAll_117 rfl hl 5 rfl ?_
                        refine g_get X hk (v := .ref (ad 7 0)) in_X1 rfl (GP.X hP) 0 (by decide) q142 (rfl) dX1_bestByAll_118 ?_
                        refine g_alenQ X hk (n := (gN T2)) (GP.Q hP) rfl dX1_bestByAll_121 ?_
                        refine g_iconst X dX1_bestByAll_122 ?_
                        refine g_isub X dX1_bestByAll_123 ?_
                        refine g_aald X hk (j := (gN S - 1)) (n := (gN T2)) (q := (ad 0 (gN S - 1))) (GP.Q hP) (cA := 1) rfl rfl (by omega) (by omega) (rfl) dX1_bestByAll_124 ?_
                        have join_141 : gHide (∀ (z : Int) (ls : Array Slot), z = (if gN S = 3 then ((b : Nat) : Int) else ((a : Nat) : Int)) → lv_has ls 6 [(5, .int (iI ((b : Nat) : Int))), (3, .int (iI (bbI S (bbO S a) a b))), (4, .int (iI ((a : Nat) : Int))), (2, .ref qb), (1, .ref qm), (0, .ref (ad 6 0))] → W P_ l e_ (gR 9 24 970) s M_ ([.ref (ad 6 0)] : List Value).toArray bl mt_ c_ H locs (((0 + 1) + 21) + 1) (((0 + 6) + 950) + 5) (vx_MQ bl (gQi (gW (gN S) ad s.heap) (fun z H1 => erA S = 0 ∧ z = baM S (baN S).toNat ∧ GP E ad S H1)) (gXD (xC (erA S) [nSt])) ([.ref (ad 6 0)] : List Value).toArray s 24 970 (gW (gN S) ad s.heap)) (F0 M_ 141 ls [.int (iI z), .ref (ad 0 (gN S - 1))])) := by
                          intro z ls e_z hl
                          subst e_z
                          have hl : lv_has ls 6 [(5, .int (iI ((b : Nat) : Int))), (3, .int (iI (bbI S (bbO S a) a b))), (4, .int (iI ((a : Nat) : Int))), (2, .ref qb), (1, .ref qm), (0, .ref (ad 6 0))] := hl
                          refine g_putN X hk hS ⟨Or.inl ⟨0, (gN S - 1), gv_0 (by decide) (by omega), rfl⟩, hP.2.2 _ _ (gv_0 (by decide) (by omega))⟩ in_X2 tyX2 tyX2_ok nmX2 rfl (GP.J hP (by omega)) 4 (by decide) 4 rfl rfl (ty := .int) (by decide +kernel) rfl rfl (Nat.le_of_ble_eq_true rfl) dX1_bestByAll_141 (fun H locs hc_ hk hz_ ho_ hS => ?_)
                          have lk_ := lk_put (s0 := s.heap.size) (H := _) hA0_ (gv_0 (by decide) (by omega)) ho_
                          have hP : GP E ad (gset T2 14 (gN S - 1) 0 (if gN S = 3 then ((b : Nat) : Int) else ((a : Nat) : Int))) H := GP.putJ hP (by omega) 4 rfl hc_ ho_
                          have hF := hF.kept (lk_ _ hF_g hF.lt)
                          have hM := hM.kp lk_
                          have hP : GP E ad (baQ S a b) H := by rw [← hT2.Q ⟨by omega, h18⟩ hT2a]; exact hP
                          refine g_iload_n X dX1_bestByAll_144 rfl hl 1 rfl ?_
                          refine g_aload_n X dX1_bestByAll_145 rfl hl 5 rfl ?_
                          refine g_aload_n X dX1_bestByAll_146 rfl hl 4 rfl ?_
                          refine g_pV X hk (As := [.ref qm]) (rest := [.int (iI (bbI S (bbO S a) a b))]) rfl (GP.X hP) (p_bands l E ad (baQ S a b) _ _ _ _ H hP hIq (hM.of2 hqo)) 1 (lw_V q434 q436 qs9 q46 q437) (by decide +kernel) ⟨⟨Nat.le_of_ble_eq_true rfl, Nat.le_of_ble_eq_true rfl⟩, Nat.le_of_ble_eq_true rfl, Nat.le_of_ble_eq_true rfl⟩ rfl rfl hl.1 (Nat.le_of_ble_eq_true rfl) dX1_bestByAll_147 ?_
                          refine g_pS X hk (As := [.int (iI (bbI S (bbO S a) a b)), .int (iI (bns (baQ S a b)))]) (rest := []) (p_max l E (bbI S (bbO S a) a b) (bns (baQ S a b)) H (by omega) (by omega)) 2 (lw_S q449 q409 q57 q410) (by decide +kernel) ⟨⟨Nat.le_of_ble_eq_true rfl, Nat.le_of_ble_eq_true rfl⟩, Nat.le_of_ble_eq_true rfl, Nat.le_of_ble_eq_true rfl⟩ rfl rfl hl.1 (Nat.le_of_ble_eq_true rfl) dX1_bestByAll_150 ?_
                          refine g_istore_n (lv' := [(3, .int (iI (max (bbI S (bbO S a) a b) (bns (baQ S a b))))), (5, .int (iI ((b : Nat) : Int))), (4, .int (iI ((a : Nat) : Int))), (2, .ref qb), (1, .ref qm), (0, .ref (ad 6 0))]) X dX1_bestByAll_153 rfl hl (by decide) rfl (fun ls hl => ?_)
                          refine g_iinc (lv' := [(5, .int (iI (((b : Nat) : Int) + 1))), (3, .int (iI (max (bbI S (bbO S a) a b) (bns (baQ S a b))))), (4, .int (iI ((a : Nat) : Int))), (2, .ref qb), (1, .ref qm), (0, .ref (ad 6 0))]) X dX1_bestByAll_154 hl (k := 1) rfl (by decide) rfl (fun ls hl => ?_)
                          refine g_goto X dX1_bestByAll_157 (tgt := 91) (by decide) ?_
                          exact ih_91.out (b + 1) (baQ S a b) (((b : Nat) : Int) + 1) (max (bbI S (bbO S a) a b) (bns (baQ S a b))) H locs (by omega) (by omega) (rfl) (by omega) (baQ_rs S (by omega) a b) (baQ_1 S a b) hk hP hS hM hF _ (lv_sub hl [0, 1, 2, 3, 4, 5] rfl)
                        refine g_aload_n X dX1_bestByAll_125 rfl hl 5 rfl ?_
                        refine g_get X hk (v := .ref (ad 7 0)) in_X1 rfl (GP.X hP) 0 (by decide) q142 (rfl) dX1_bestByAll_126 ?_
                        refine g_alenQ X hk (n := (gN T2)) (GP.Q hP) rfl dX1_bestByAll_129 ?_
                        refine g_iconst X dX1_bestByAll_130 ?_
                        refine g_icmp_ne X dX1_bestByAll_131 (tgt := 139) (by decide) (by omega) (fun c131 => ?_) (fun c131 => ?_)
                        · refine g_iload X dX1_bestByAll_139 hl 2 rfl ?_
                          exact join_141.out ((a : Nat) : Int) _ (by grind) (lv_sub hl [0, 1, 2, 3, 4, 5] rfl)
                        · refine g_iload X dX1_bestByAll_134 hl 0 rfl ?_
                          refine g_goto X dX1_bestByAll_136 (tgt := 141) (by decide) ?_
                          exact join_141.out ((b : Nat) : Int) _ (by grind) (lv_sub hl [0, 1, 2, 3, 4, 5] rfl)
                    refine g_aload_n X dX1_bestByAll_93 rfl hl 5 rfl ?_
                    refine g_get X hk (v := .ref (ad 7 0)) in_X1 rfl (GP.X hP) 0 (by decide) q142 (rfl) dX1_bestByAll_94 ?_
                    refine g_alenQ X hk (n := (gN T2)) (GP.Q hP) rfl dX1_bestByAll_97 ?_
                    refine g_iconst X dX1_bestByAll_98 ?_
                    refine g_icmp_ne X dX1_bestByAll_99 (tgt := 109) (by decide) (by omega) (fun c99 => ?_) (fun c99 => ?_)
                    · refine g_iconst X dX1_bestByAll_109 ?_
                      exact join_110.out 1 _ (by grind) (lv_sub hl [0, 1, 2, 3, 4, 5] rfl)
                    · refine g_aload_n X dX1_bestByAll_102 rfl hl 5 rfl ?_
                      refine g_get X hk (v := .int (iI (gCyc T2))) in_X1 rfl (GP.X hP) 1 (by decide) q143 (rfl) dX1_bestByAll_103 ?_
                      refine g_goto X dX1_bestByAll_106 (tgt := 110) (by decide) ?_
                      exact join_110.out (gCyc T2) _ (by grind) (lv_sub hl [0, 1, 2, 3, 4, 5] rfl)
                exact loop_91.out 92 0 Tq 0 (bbO S a) H locs (by omega) (rfl) (rfl) (by split <;> omega) hTq hTa hk hP hS hM hF _ (lv_sub hl [0, 2, 1, 3, 4, 5] rfl)
          exact loop_68.out ((gCyc S).toNat + 1) 0 S 0 0 H locs (by omega) (rfl) (rfl) (by omega) (rsE.rf S 1) hk hP hS hM hF _ (lv_sub hl [0, 1, 2, 3, 4] rfl)
        · refine g_aload_n X dX1_bestByAll_45 rfl hl 1 rfl ?_
          refine g_iload_n X dX1_bestByAll_46 rfl hl 0 rfl ?_
          refine g_aload_n X dX1_bestByAll_47 rfl hl 3 rfl ?_
          refine g_get X hk (v := .ref (ad 7 0)) in_X1 rfl (GP.X hP) 0 (by decide) q142 (rfl) dX1_bestByAll_48 ?_
          refine g_iload_n X dX1_bestByAll_51 rfl hl 0 rfl ?_
          refine g_aald X hk (j := k) (n := (gN S)) (q := (ad 0 k)) (GP.Q hP) (cA := 1) rfl rfl (rfl) (by omega) (rfl) dX1_bestByAll_52 ?_
          refine g_getN X hk (v := .int (iI (gOff S k))) (host := "Greenwave") in_X2 rfl (GP.J hP (by omega)) 4 (by decide) 4 rfl (rfl) dX1_bestByAll_53 ?_
          refine g_iast X hk hS ⟨hF_g, Nat.le_trans hN0 hF_g⟩ (j := k) (n := (gN S)) (f := (fun i => if i < k then gOff S i else 0)) hF (rfl) (by omega) dX1_bestByAll_56 (fun H locs hc_ hk hz_ ho_ hS => ?_)
          have hP := GP.loc hP hA0_ hF_g ho_
          have hF : ce E qb (aI E (gN S) (uI (fun i => if i < k then gOff S i else 0) k (gOff S k))) H := hc_
          have hF : ce E qb (aI E (gN S) (fun i => if i < (k + 1) then gOff S i else 0)) H := ce_I hF (fun i hi => by simp only [uI]; grind)
          have hM := hM.kb (fun q h1 h2 => ho_ q (by omega))
          refine g_iinc (lv' := [(3, .int (iI (((k : Nat) : Int) + 1))), (2, .ref qb), (1, .ref qm), (0, .ref (ad 6 0))]) X dX1_bestByAll_57 hl (k := 0) rfl (by decide) rfl (fun ls hl => ?_)
          refine g_goto X dX1_bestByAll_60 (tgt := 36) (by decide) ?_
          exact ih_36.out (k + 1) (((k : Nat) : Int) + 1) H locs (by omega) (by omega) (by omega) hk hP hS hM hF _ (lv_sub hl [0, 1, 2, 3] rfl)
    exact loop_36.out (gN S + 1) 0 0 H locs (by omega) (rfl) (by omega) hk hP hS hM (ce_I hF (fun i hi => by rw [if_neg (by omega)])) _ (lv_sub hl [0, 1, 2, 3] rfl)
  refine g_aload_n X dX1_bestByAll_4 rfl hl 0 rfl ?_
  refine g_get X hk (v := .ref (ad 7 0)) in_X1 rfl (GP.X hP) 0 (by decide) q142 (rfl) dX1_bestByAll_5 ?_
  refine g_alenQ X hk (n := (gN S)) (GP.Q hP) rfl dX1_bestByAll_8 ?_
  refine g_iconst X dX1_bestByAll_9 ?_
  refine g_icmp_gt X dX1_bestByAll_10 (tgt := 17) (by decide) (by omega) (fun c10 => ?_) (fun c10 => ?_)
  · refine g_iconst X dX1_bestByAll_17 ?_
    exact join_18.out 0 _ (by grind [bZ]) (lv_sub hl [0] rfl)
  · refine g_iconst X dX1_bestByAll_13 ?_
    refine g_goto X dX1_bestByAll_14 (tgt := 18) (by decide) ?_
    exact join_18.out 1 _ (by grind [bZ]) (lv_sub hl [0] rfl)
