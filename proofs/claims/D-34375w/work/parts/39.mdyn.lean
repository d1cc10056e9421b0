/-! the reference, running: what its steps do -/
def mRd (M : MS) (j : Nat) (gb : Bool) : Int := if gb = true then min 2 (M 19 j + 1) else 0
def mGo (S : GS) (M : MS) (j : Nat) (gb : Bool) : Bool := decide (mRd M j gb = 2 ∧ 0 < M 18 j ∧ (j + 1 = gN S ∨ M 20 j + M 18 (j + 1) < gRoo S j))
def mLv (S : GS) (M : MS) (j : Nat) (gb : Bool) (f i : Nat) : Int :=
  if f = 19 ∧ i = j then (if mGo S M j gb = true then 0 else mRd M j gb)
  else if f = 18 ∧ i = j then (if mGo S M j gb = true then M 18 j - 1 else M 18 j)
  else if f = 17 ∧ i = 0 then (if mGo S M j gb = true ∧ j + 1 = gN S then M 17 0 + 1 else M 17 0)
  else if f = 21 ∧ i = 40 * j + (M 20 j).toNat then (if mGo S M j gb = true ∧ ¬ j + 1 = gN S then gNow S + gLnk S j else M 21 i)
  else if f = 20 ∧ i = j then (if mGo S M j gb = true ∧ ¬ j + 1 = gN S then M 20 j + 1 else M 20 j)
  else M f i
def mAr (S : GS) (M : MS) (f i : Nat) : Int :=
  if f = 15 ∧ i = 0 then (if 3600 ≤ M 15 0 + gFl S 0 0 then M 15 0 + gFl S 0 0 - 3600 else M 15 0 + gFl S 0 0)
  else if f = 16 ∧ i = 0 then (if 3600 ≤ M 15 0 + gFl S 0 0 then M 16 0 + 1 else M 16 0)
  else if f = 18 ∧ i = 0 then (if 3600 ≤ M 15 0 + gFl S 0 0 then M 18 0 + 1 else M 18 0)
  else M f i
/-- the reference's vehicles: their seconds -/
def mJo (M M1 : MS) (L T r : Nat) (now : Int) : Prop := r ≤ T ∧ (∀ k, k < r → M 21 (40 * L + k) = now) ∧ M1 20 L = (T : Int) - r ∧ M1 18 (L + 1) = M 18 (L + 1) + r ∧ (∀ k, k + r < T → M1 21 (40 * L + k) = M 21 (40 * L + (k + r))) ∧ ∀ f i, ¬ (f = 18 ∧ i = L + 1) → ¬ (f = 20 ∧ i = L) → ¬ (f = 21 ∧ 40 * L ≤ i ∧ i < 40 * L + 40) → M1 f i = M f i
def mJk (M M1 : MS) (L T r k : Nat) (now : Int) : Prop := (r < T ∧ k + (r + 1) ≤ T) ∧ (∀ k, k < r + 1 → M 21 (40 * L + k) = now) ∧ M1 20 L = (T : Int) - r - 1 ∧ M1 18 (L + 1) = M 18 (L + 1) + r ∧ (∀ i, i < k → M1 21 (40 * L + i) = M 21 (40 * L + (i + r + 1))) ∧ (∀ i, k ≤ i → i + r < T → M1 21 (40 * L + i) = M 21 (40 * L + (i + r))) ∧ ∀ f i, ¬ (f = 18 ∧ i = L + 1) → ¬ (f = 20 ∧ i = L) → ¬ (f = 21 ∧ 40 * L ≤ i ∧ i < 40 * L + 40) → M1 f i = M f i
set_option maxHeartbeats 4000000 in
theorem m_arrives (l : Launch) (E : EP) (am : Nat → Nat) (S : GS) (M : MS) (H : Heap) (hM : MP E am M H) (hI : gI S) (hR : MR S M) (h15 : 0 ≤ M 15 0 ∧ M 15 0 ≤ 3600) : gMv l E yX3_arrives cX3_arrives 1 0 0 0 H [.ref (am 0)] (mW am) (fun H1 => ∃ M1, MP E am M1 H1 ∧ ∀ f i, M1 f i = mAr S M f i) := by
  refine g_met (plainFor_of_name (by decide)) (Nat.le_of_ble_eq_true rfl) (fun P_ e_ s M_ bl mt_ c_ ls X hmeth_ hk hh hl => ?_)
  subst hh
  have X : gX P_ s M_ mt_ c_ cX3_arrives 1 ([.ref (am 0)] : List Value).toArray RX3 none := X
  have hl : lv_has ls 1 [(0, .ref (am 0))] := hl
  have hS : va_S (mW am) s.heap s.heap [] := va_S.rf
  have hn5 := hI.1.1
  have hf0 := (hI.2.2 0 (by omega)).2.2.2.1 0 (by omega)
  refine g_aload_n X dX3_arrives_0 rfl hl 0 rfl ?_
  refine g_dup X dX3_arrives_1 rfl ?_
  refine g_get X hk (v := .int (iI (M 15 0))) in_X3 rfl (MP.O hM) 15 (by decide) q616 (rfl) dX3_arrives_2 ?_
  refine g_aload_n X dX3_arrives_5 rfl hl 0 rfl ?_
  refine g_get X hk (v := .ref (am 7)) in_X3 rfl (MP.O hM) 7 (by decide) q608 (rfl) dX3_arrives_6 ?_
  refine g_iconst X dX3_arrives_9 ?_
  refine g_ialdv X hk (j := 0) (n := 20) (f := (M 7)) (v := (gFl S 0 0)) (MP.I hM 7 rfl) (rfl) (by omega) (by have := MR.fl hR (show 0 < gN S by omega) (show 0 < 4 by omega); exact this) dX3_arrives_10 ?_
  refine g_iadd X dX3_arrives_11 ?_
  refine g_put X hk hS (MP.A0 hM (Or.inl rfl)) in_X3 tyX3 tyX3_ok nmX3 rfl (MP.O hM) 15 (by decide) q616 rfl (ty := .int) (by decide +kernel) (rfl) rfl (Nat.le_of_ble_eq_true rfl) dX3_arrives_12 (fun H locs hc_ hk hz_ ho_ hS => ?_)
  obtain ⟨M56, eM56⟩ : ∃ M_ : MS, M_ = mset M 15 0 ((M 15 0) + (gFl S 0 0)) := ⟨_, rfl⟩
  have hM : MP E am M56 H := by rw [eM56]; exact MP.put hM 15 rfl hc_ ho_
  have gM56 : ∀ f i, M56 f i = if f = 15 ∧ i = 0 then ((M 15 0) + (gFl S 0 0)) else M f i := by intro f i; rw [eM56]; rfl
  have hR : MR S M56 := by rw [eM56]; exact MR.ign hR rfl
  refine g_aload_n X dX3_arrives_15 rfl hl 0 rfl ?_
  refine g_get X hk (v := .int (iI (M56 15 0))) in_X3 rfl (MP.O hM) 15 (by decide) q616 (rfl) dX3_arrives_16 ?_
  refine g_sipush X dX3_arrives_19 rfl ?_
  have h22 : M56 15 0 = M 15 0 + gFl S 0 0 := by rw [gM56, if_pos ⟨rfl, rfl⟩]
  refine g_icmp_lt X dX3_arrives_22 (tgt := 57) (by decide) (by omega) (fun c22 => ?_) (fun c22 => ?_)
  · exact g_vret X hS (⟨M56, hM, fun f i => by simp only [gM56]; unfold mAr; grind⟩) ⟨Nat.le_of_ble_eq_true rfl, Nat.le_of_ble_eq_true rfl⟩ dX3_arrives_57
  · refine g_aload_n X dX3_arrives_25 rfl hl 0 rfl ?_
    refine g_dup X dX3_arrives_26 rfl ?_
    refine g_get X hk (v := .int (iI (M56 15 0))) in_X3 rfl (MP.O hM) 15 (by decide) q616 (rfl) dX3_arrives_27 ?_
    refine g_sipush X dX3_arrives_30 rfl ?_
    refine g_isub X dX3_arrives_33 ?_
    refine g_put X hk hS (MP.A0 hM (Or.inl rfl)) in_X3 tyX3 tyX3_ok nmX3 rfl (MP.O hM) 15 (by decide) q616 rfl (ty := .int) (by decide +kernel) (rfl) rfl (Nat.le_of_ble_eq_true rfl) dX3_arrives_34 (fun H locs hc_ hk hz_ ho_ hS => ?_)
    obtain ⟨M57, eM57⟩ : ∃ M_ : MS, M_ = mset M56 15 0 ((M56 15 0) - 3600) := ⟨_, rfl⟩
    have hM : MP E am M57 H := by rw [eM57]; exact MP.put hM 15 rfl hc_ ho_
    have gM57 : ∀ f i, M57 f i = if f = 15 ∧ i = 0 then ((M56 15 0) - 3600) else M56 f i := by intro f i; rw [eM57]; rfl
    have hR : MR S M57 := by rw [eM57]; exact MR.ign hR rfl
    refine g_aload_n X dX3_arrives_37 rfl hl 0 rfl ?_
    refine g_dup X dX3_arrives_38 rfl ?_
    refine g_get X hk (v := .int (iI (M57 16 0))) in_X3 rfl (MP.O hM) 16 (by decide) q617 (rfl) dX3_arrives_39 ?_
    refine g_iconst X dX3_arrives_42 ?_
    refine g_iadd X dX3_arrives_43 ?_
    refine g_put X hk hS (MP.A0 hM (Or.inl rfl)) in_X3 tyX3 tyX3_ok nmX3 rfl (MP.O hM) 16 (by decide) q617 rfl (ty := .int) (by decide +kernel) (rfl) rfl (Nat.le_of_ble_eq_true rfl) dX3_arrives_44 (fun H locs hc_ hk hz_ ho_ hS => ?_)
    obtain ⟨M58, eM58⟩ : ∃ M_ : MS, M_ = mset M57 16 0 ((M57 16 0) + 1) := ⟨_, rfl⟩
    have hM : MP E am M58 H := by rw [eM58]; exact MP.put hM 16 rfl hc_ ho_
    have gM58 : ∀ f i, M58 f i = if f = 16 ∧ i = 0 then ((M57 16 0) + 1) else M57 f i := by intro f i; rw [eM58]; rfl
    have hR : MR S M58 := by rw [eM58]; exact MR.ign hR rfl
    refine g_aload_n X dX3_arrives_47 rfl hl 0 rfl ?_
    refine g_get X hk (v := .ref (am 18)) in_X3 rfl (MP.O hM) 18 (by decide) q619 (rfl) dX3_arrives_48 ?_
    refine g_iconst X dX3_arrives_51 ?_
    refine g_dup2 X dX3_arrives_52 rfl rfl ?_
    refine g_ialdv X hk (j := 0) (n := 5) (f := (M58 18)) (v := ((M58 18) 0)) (MP.I hM 18 rfl) (rfl) (by omega) (rfl) dX3_arrives_53 ?_
    refine g_iconst X dX3_arrives_54 ?_
    refine g_iadd X dX3_arrives_55 ?_
    refine g_iast X hk hS (MP.A0 hM (Or.inr rfl)) (j := 0) (n := 5) (f := (M58 18)) (MP.I hM 18 rfl) (rfl) (by omega) dX3_arrives_56 (fun H locs hc_ hk hz_ ho_ hS => ?_)
    obtain ⟨M59, eM59⟩ : ∃ M_ : MS, M_ = mset M58 18 0 (((M58 18) 0) + 1) := ⟨_, rfl⟩
    have hM : MP E am M59 H := by rw [eM59]; exact MP.ast hM 18 rfl hc_ ho_
    have gM59 : ∀ f i, M59 f i = if f = 18 ∧ i = 0 then (((M58 18) 0) + 1) else M58 f i := by intro f i; rw [eM59]; rfl
    have hR : MR S M59 := by rw [eM59]; exact MR.ign hR rfl
    exact g_vret X hS (⟨M59, hM, fun f i => by simp only [gM59, gM58, gM57, gM56]; unfold mAr; grind⟩) ⟨Nat.le_of_ble_eq_true rfl, Nat.le_of_ble_eq_true rfl⟩ dX3_arrives_57
set_option maxHeartbeats 4000000 in
theorem m_joins (l : Launch) (E : EP) (am : Nat → Nat) (S : GS) (M : MS) (H : Heap) (hM : MP E am M H) (hI : gI S) (hR : MR S M) (L T : Nat) (hL : L + 1 < gN S) (hT : M 20 L = (T : Int)) (hT40 : T ≤ 40) (hb : ∀ k, k < T → -1000000 ≤ M 21 (40 * L + k) ∧ M 21 (40 * L + k) ≤ 1000000) : gMv l E yX3_joins cX3_joins 4 0 0 0 H [.ref (am 0), .int (iI (((L + 1) : Nat) : Int))] (mW am) (fun H1 => ∃ M1 r, MP E am M1 H1 ∧ mJo M M1 L T r (gNow S) ∧ (r < T → ¬ M 21 (40 * L + r) = gNow S)) := by
  refine g_met (plainFor_of_name (by decide)) (Nat.le_of_ble_eq_true rfl) (fun P_ e_ s M_ bl mt_ c_ ls X hmeth_ hk hh hl => ?_)
  subst hh
  have X : gX P_ s M_ mt_ c_ cX3_joins 4 ([.ref (am 0), .int (iI (((L + 1) : Nat) : Int))] : List Value).toArray RX3 none := X
  have hl : lv_has ls 4 [(0, .ref (am 0)), (1, .int (iI (((L + 1) : Nat) : Int)))] := hl
  have hS : va_S (mW am) s.heap s.heap [] := va_S.rf
  have hn5 := hI.1.1
  have hnow := hI.1.2.2
  refine g_iload_n X dX3_joins_0 rfl hl 1 rfl ?_
  refine g_iconst X dX3_joins_1 ?_
  refine g_isub X dX3_joins_2 ?_
  rw [show ((((L + 1) : Nat) : Int) - 1) = ((L : Nat) : Int) by omega]
  refine g_istore_n (lv' := [(2, .int (iI ((L : Nat) : Int))), (0, .ref (am 0)), (1, .int (iI (((L + 1) : Nat) : Int)))]) X dX3_joins_3 rfl hl (by decide) rfl (fun ls hl => ?_)
  have loop_4 : gHide (∀ (n_ : Nat) (r : Nat) (Ma : MS) (H : Heap) (locs : List Loc), T + 1 ≤ r + n_ → (r ≤ T) → (mJo M Ma L T r (gNow S)) → (MR S Ma) → (kk E s H) → (va_S (mW am) s.heap H locs) → (MP E am Ma H) → ∀ (ls : Array Slot), lv_has ls 4 [(2, .int (iI ((L : Nat) : Int))), (0, .ref (am 0)), (1, .int (iI (((L + 1) : Nat) : Int)))] → W P_ l e_ (gR 0 0 0) s M_ ([.ref (am 0), .int (iI (((L + 1) : Nat) : Int))] : List Value).toArray bl mt_ c_ H locs 0 0 (MQ bl (gQv (mW am) (fun H1 => ∃ M1 r, MP E am M1 H1 ∧ mJo M M1 L T r (gNow S) ∧ (r < T → ¬ M 21 (40 * L + r) = gNow S))) ([.ref (am 0), .int (iI (((L + 1) : Nat) : Int))] : List Value).toArray s 0 0 (mW am)) (F0 M_ 4 ls [])) := by
    intro n_
    induction n_ with
    | zero => intro r Ma H locs hb_ hrT hJ hR hk hS hM ls hl; exact absurd hb_ (by omega)
    | succ n_ ih_4 =>
      replace ih_4 := gHide.mk ih_4
      intro r Ma H locs hb_ hrT hJ hR hk hS hM ls hl
      have hl : lv_has ls 4 [(2, .int (iI ((L : Nat) : Int))), (0, .ref (am 0)), (1, .int (iI (((L + 1) : Nat) : Int)))] := hl
      refine g_aload_n X dX3_joins_4 rfl hl 1 rfl ?_
      refine g_get X hk (v := .ref (am 20)) in_X3 rfl (MP.O hM) 20 (by decide) q621 (rfl) dX3_joins_5 ?_
      refine g_iload_n X dX3_joins_8 rfl hl 0 rfl ?_
      refine g_ialdv X hk (j := L) (n := 4) (f := (Ma 20)) (v := ((Ma 20) L)) (MP.I hM 20 rfl) (rfl) (by omega) (rfl) dX3_joins_9 ?_
      have h20 := hJ.2.2.1
      have hrb := hJ.1
      refine g_if_le X dX3_joins_10 (tgt := 94) (by decide) (by omega) (fun c10 => ?_) (fun c10 => ?_)
      · exact g_vret X hS (⟨Ma, r, hM, hJ, fun h => by first | omega | (intro e; omega)⟩) ⟨Nat.le_of_ble_eq_true rfl, Nat.le_of_ble_eq_true rfl⟩ dX3_joins_94
      · refine g_aload_n X dX3_joins_13 rfl hl 1 rfl ?_
        refine g_get X hk (v := .ref (am 21)) in_X3 rfl (MP.O hM) 21 (by decide) q622 (rfl) dX3_joins_14 ?_
        refine g_bipush X dX3_joins_17 rfl ?_
        refine g_iload_n X dX3_joins_19 rfl hl 0 rfl ?_
        refine g_imul X dX3_joins_20 ?_
        refine g_ialdv X hk (j := (40 * L)) (n := 160) (f := (Ma 21)) (v := (Ma 21 (40 * L))) (MP.I hM 21 rfl) (by omega) (by omega) (rfl) dX3_joins_21 ?_
        refine g_aload_n X dX3_joins_22 rfl hl 1 rfl ?_
        refine g_get X hk (v := .int (iI (gNow S))) in_X3 rfl (MP.O hM) 14 (by decide) q615 (sI (MR.now hR)) dX3_joins_23 ?_
        have h26 : Ma 21 (40 * L) = M 21 (40 * L + r) := by have h1 := hJ.2.2.2.2.1 0 (by omega); rw [Nat.zero_add] at h1; exact h1
        have h26b := hb r (by omega)
        refine g_icmp_ne X dX3_joins_26 (tgt := 94) (by decide) (by omega) (fun c26 => ?_) (fun c26 => ?_)
        · exact g_vret X hS (⟨Ma, r, hM, hJ, fun h => by first | omega | (intro e; omega)⟩) ⟨Nat.le_of_ble_eq_true rfl, Nat.le_of_ble_eq_true rfl⟩ dX3_joins_94
        · refine g_aload_n X dX3_joins_29 rfl hl 1 rfl ?_
          refine g_get X hk (v := .ref (am 20)) in_X3 rfl (MP.O hM) 20 (by decide) q621 (rfl) dX3_joins_30 ?_
          refine g_iload_n X dX3_joins_33 rfl hl 0 rfl ?_
          refine g_dup2 X dX3_joins_34 rfl rfl ?_
          refine g_ialdv X hk (j := L) (n := 4) (f := (Ma 20)) (v := ((Ma 20) L)) (MP.I hM 20 rfl) (rfl) (by omega) (rfl) dX3_joins_35 ?_
          refine g_iconst X dX3_joins_36 ?_
          refine g_isub X dX3_joins_37 ?_
          refine g_iast X hk hS (MP.A0 hM (Or.inr rfl)) (j := L) (n := 4) (f := (Ma 20)) (MP.I hM 20 rfl) (rfl) (by omega) dX3_joins_38 (fun H locs hc_ hk hz_ ho_ hS => ?_)
          obtain ⟨M60, eM60⟩ : ∃ M_ : MS, M_ = mset Ma 20 L (((Ma 20) L) - 1) := ⟨_, rfl⟩
          have hM : MP E am M60 H := by rw [eM60]; exact MP.ast hM 20 rfl hc_ ho_
          have gM60 : ∀ f i, M60 f i = if f = 20 ∧ i = L then (((Ma 20) L) - 1) else Ma f i := by intro f i; rw [eM60]; rfl
          have hR : MR S M60 := by rw [eM60]; exact MR.ign hR rfl
          refine g_iconst X dX3_joins_39 ?_
          refine g_istore_n (lv' := [(3, .int (iI 0)), (2, .int (iI ((L : Nat) : Int))), (0, .ref (am 0)), (1, .int (iI (((L + 1) : Nat) : Int)))]) X dX3_joins_40 rfl hl (by decide) rfl (fun ls hl => ?_)
          have loop_41 : gHide (∀ (n_ : Nat) (k : Nat) (Mb : MS) (v3 : Int) (H : Heap) (locs : List Loc), T + 1 ≤ k + n_ → v3 = ((k : Nat) : Int) → (k + (r + 1) ≤ T) → (mJk M Mb L T r k (gNow S)) → (MR S Mb) → (kk E s H) → (va_S (mW am) s.heap H locs) → (MP E am Mb H) → ∀ (ls : Array Slot), lv_has ls 4 [(3, .int (iI v3)), (2, .int (iI ((L : Nat) : Int))), (0, .ref (am 0)), (1, .int (iI (((L + 1) : Nat) : Int)))] → W P_ l e_ (gR 0 0 0) s M_ ([.ref (am 0), .int (iI (((L + 1) : Nat) : Int))] : List Value).toArray bl mt_ c_ H locs 0 0 (MQ bl (gQv (mW am) (fun H1 => ∃ M1 r, MP E am M1 H1 ∧ mJo M M1 L T r (gNow S) ∧ (r < T → ¬ M 21 (40 * L + r) = gNow S))) ([.ref (am 0), .int (iI (((L + 1) : Nat) : Int))] : List Value).toArray s 0 0 (mW am)) (F0 M_ 41 ls [])) := by
            intro n_
            induction n_ with
            | zero => intro k Mb v3 H locs hb_ e_v3 hkT hK hR hk hS hM ls hl; exact absurd hb_ (by omega)
            | succ n_ ih_41 =>
              replace ih_41 := gHide.mk ih_41
              intro k Mb v3 H locs hb_ e_v3 hkT hK hR hk hS hM ls hl
              subst e_v3
              have hl : lv_has ls 4 [(3, .int (iI ((k : Nat) : Int))), (2, .int (iI ((L : Nat) : Int))), (0, .ref (am 0)), (1, .int (iI (((L + 1) : Nat) : Int)))] := hl
              refine g_iload_n X dX3_joins_41 rfl hl 0 rfl ?_
              refine g_aload_n X dX3_joins_42 rfl hl 2 rfl ?_
              refine g_get X hk (v := .ref (am 20)) in_X3 rfl (MP.O hM) 20 (by decide) q621 (rfl) dX3_joins_43 ?_
              refine g_iload_n X dX3_joins_46 rfl hl 1 rfl ?_
              refine g_ialdv X hk (j := L) (n := 4) (f := (Mb 20)) (v := ((Mb 20) L)) (MP.I hM 20 rfl) (rfl) (by omega) (rfl) dX3_joins_47 ?_
              have h48 := hK.2.2.1
              refine g_icmp_ge X dX3_joins_48 (tgt := 81) (by decide) (by omega) (fun c48 => ?_) (fun c48 => ?_)
              · refine g_aload_n X dX3_joins_81 rfl hl 2 rfl ?_
                refine g_get X hk (v := .ref (am 18)) in_X3 rfl (MP.O hM) 18 (by decide) q619 (rfl) dX3_joins_82 ?_
                refine g_iload_n X dX3_joins_85 rfl hl 3 rfl ?_
                refine g_dup2 X dX3_joins_86 rfl rfl ?_
                refine g_ialdv X hk (j := (L + 1)) (n := 5) (f := (Mb 18)) (v := ((Mb 18) (L + 1))) (MP.I hM 18 rfl) (by omega) (by omega) (rfl) dX3_joins_87 ?_
                refine g_iconst X dX3_joins_88 ?_
                refine g_iadd X dX3_joins_89 ?_
                refine g_iast X hk hS (MP.A0 hM (Or.inr rfl)) (j := (L + 1)) (n := 5) (f := (Mb 18)) (MP.I hM 18 rfl) (by omega) (by omega) dX3_joins_90 (fun H locs hc_ hk hz_ ho_ hS => ?_)
                obtain ⟨M61, eM61⟩ : ∃ M_ : MS, M_ = mset Mb 18 (L + 1) (((Mb 18) (L + 1)) + 1) := ⟨_, rfl⟩
                have hM : MP E am M61 H := by rw [eM61]; exact MP.ast hM 18 rfl hc_ ho_
                have gM61 : ∀ f i, M61 f i = if f = 18 ∧ i = (L + 1) then (((Mb 18) (L + 1)) + 1) else Mb f i := by intro f i; rw [eM61]; rfl
                have hR : MR S M61 := by rw [eM61]; exact MR.ign hR rfl
                refine g_goto X dX3_joins_91 (tgt := 4) (by decide) ?_
                have hJ2 : mJo M M61 L T (r + 1) (gNow S) := by
                  obtain ⟨k1, k2, k3, k4, k5, k6, k7⟩ := hK
                  have ek : k + (r + 1) = T := by omega
                  refine ⟨by omega, k2, by rw [gM61, if_neg (by omega)]; omega, by rw [gM61, if_pos ⟨rfl, rfl⟩, k4]; omega, fun i hi => by rw [gM61, if_neg (by omega)]; exact k5 i (by omega), fun f i a b c => by rw [gM61, if_neg a]; exact k7 f i a b c⟩
                exact ih_4.out (r + 1) M61 H locs (by omega) (by omega) hJ2 hR hk hS hM _ (lv_sub hl [1, 2, 3] rfl)
              · have hK48 := hK.1
                refine g_aload_n X dX3_joins_51 rfl hl 2 rfl ?_
                refine g_get X hk (v := .ref (am 21)) in_X3 rfl (MP.O hM) 21 (by decide) q622 (rfl) dX3_joins_52 ?_
                refine g_bipush X dX3_joins_55 rfl ?_
                refine g_iload_n X dX3_joins_57 rfl hl 1 rfl ?_
                refine g_imul X dX3_joins_58 ?_
                refine g_iload_n X dX3_joins_59 rfl hl 0 rfl ?_
                refine g_iadd X dX3_joins_60 ?_
                refine g_aload_n X dX3_joins_61 rfl hl 2 rfl ?_
                refine g_get X hk (v := .ref (am 21)) in_X3 rfl (MP.O hM) 21 (by decide) q622 (rfl) dX3_joins_62 ?_
                refine g_bipush X dX3_joins_65 rfl ?_
                refine g_iload_n X dX3_joins_67 rfl hl 1 rfl ?_
                refine g_imul X dX3_joins_68 ?_
                refine g_iload_n X dX3_joins_69 rfl hl 0 rfl ?_
                refine g_iadd X dX3_joins_70 ?_
                refine g_iconst X dX3_joins_71 ?_
                refine g_iadd X dX3_joins_72 ?_
                refine g_ialdv X hk (j := 40 * L + (k + 1)) (n := 160) (f := (Mb 21)) (v := ((Mb 21) (40 * L + (k + 1)))) (MP.I hM 21 rfl) (by omega) (by omega) (rfl) dX3_joins_73 ?_
                refine g_iast X hk hS (MP.A0 hM (Or.inr rfl)) (j := 40 * L + k) (n := 160) (f := (Mb 21)) (MP.I hM 21 rfl) (by omega) (by omega) dX3_joins_74 (fun H locs hc_ hk hz_ ho_ hS => ?_)
                obtain ⟨M62, eM62⟩ : ∃ M_ : MS, M_ = mset Mb 21 (40 * L + k) ((Mb 21) (40 * L + (k + 1))) := ⟨_, rfl⟩
                have hM : MP E am M62 H := by rw [eM62]; exact MP.ast hM 21 rfl hc_ ho_
                have gM62 : ∀ f i, M62 f i = if f = 21 ∧ i = 40 * L + k then ((Mb 21) (40 * L + (k + 1))) else Mb f i := by intro f i; rw [eM62]; rfl
                have hR : MR S M62 := by rw [eM62]; exact MR.ign hR rfl
                refine g_iinc (lv' := [(3, .int (iI (((k : Nat) : Int) + 1))), (2, .int (iI ((L : Nat) : Int))), (0, .ref (am 0)), (1, .int (iI (((L + 1) : Nat) : Int)))]) X dX3_joins_75 hl (k := 0) rfl (by decide) rfl (fun ls hl => ?_)
                refine g_goto X dX3_joins_78 (tgt := 41) (by decide) ?_
                have hK2 : mJk M M62 L T r (k + 1) (gNow S) := by
                  obtain ⟨k1, k2, k3, k4, k5, k6, k7⟩ := hK
                  refine ⟨by omega, k2, by rw [gM62, if_neg (by omega)]; exact k3, by rw [gM62, if_neg (by omega)]; exact k4, fun i hi => ?_, fun i h1 hi => by rw [gM62, if_neg (by omega)]; exact k6 i (by omega) hi, fun f i a b c => by rw [gM62, if_neg (by omega)]; exact k7 f i a b c⟩
                  by_cases e : i = k
                  · subst e; rw [gM62, if_pos ⟨rfl, rfl⟩, k6 (i + 1) (by omega) (by omega)]; congr 1; omega
                  · rw [gM62, if_neg (by omega)]; exact k5 i (by omega)
                exact ih_41.out (k + 1) M62 (((k : Nat) : Int) + 1) H locs (by omega) (by omega) (by omega) hK2 hR hk hS hM _ (lv_sub hl [0, 1, 2, 3] rfl)
          have hK0 : mJk M M60 L T r 0 (gNow S) := by
            obtain ⟨k1, k2, k3, k4, k5, k7⟩ := hJ
            have hrT : r < T := by omega
            refine ⟨⟨hrT, by omega⟩, fun i hi => (Nat.lt_succ_iff_lt_or_eq.mp hi).elim (k2 i) (fun e => by rw [e]; omega), by rw [gM60, if_pos ⟨rfl, rfl⟩, k3], by rw [gM60, if_neg (by omega)]; exact k4, fun i hi => absurd hi (Nat.not_lt_zero i), fun i _ hi => by rw [gM60, if_neg (by omega)]; exact k5 i hi, fun f i a b c => by rw [gM60, if_neg b]; exact k7 f i a b c⟩
          exact loop_41.out (T + 1) 0 M60 0 H locs (by omega) (rfl) (by omega) hK0 hR hk hS hM _ (lv_sub hl [0, 1, 2, 3] rfl)
  exact loop_4.out (T + 1) 0 M s.heap [] (by omega) (by omega) (⟨by omega, fun k h => absurd h (Nat.not_lt_zero k), by omega, by omega, fun k h => rfl, fun _ _ _ _ _ => rfl⟩) hR hk hS hM _ (lv_sub hl [0, 1, 2] rfl)
set_option maxHeartbeats 4000000 in
theorem m_leaves (l : Launch) (E : EP) (am : Nat → Nat) (S : GS) (M : MS) (H : Heap) (hM : MP E am M H) (hI : gI S) (hR : MR S M) (j : Nat) (hj : j < gN S) (hMI : mI M) (hL : 0 ≤ lft S j) (hPl : mPl S M j) (h19 : 0 ≤ M 19 j ∧ M 19 j ≤ 2) (h18 : ∀ i, i < gN S → 0 ≤ M 18 i ∧ M 18 i ≤ 100000) (h20 : j + 1 < gN S → 0 ≤ M 20 j ∧ M 20 j + M 18 (j + 1) ≤ gRoo S j) : gMv l E yX3_leaves cX3_leaves 4 4 0 0 H [.ref (am 0), .int (iI ((j : Nat) : Int))] (mW am) (fun H1 => ∃ M1, MP E am M1 H1 ∧ ∀ f i, M1 f i = mLv S M j (mGn S (grn S j) (clr S j) M j 0 (gNow S) true) f i) := by
  refine g_met (plainFor_of_name (by decide)) (Nat.le_of_ble_eq_true rfl) (fun P_ e_ s M_ bl mt_ c_ ls X hmeth_ hk hh hl => ?_)
  subst hh
  have X : gX P_ s M_ mt_ c_ cX3_leaves 4 ([.ref (am 0), .int (iI ((j : Nat) : Int))] : List Value).toArray RX3 none := X
  have hl : lv_has ls 4 [(0, .ref (am 0)), (1, .int (iI ((j : Nat) : Int)))] := hl
  have hS : va_S (mW am) s.heap s.heap [] := va_S.rf
  have hn5 := hI.1.1
  have hnp := (hI.2.2 j hj).1
  have hnow := hI.1.2.2
  have h18j := h18 j hj
  have hroo := fun h : j + 1 < gN S => (hI.2.2 j hj).2.2.2.2.2.2.1
  have hlnk := (hI.2.2 j hj).2.2.2.2.2.1
  have h18n := fun h : j + 1 < gN S => h18 (j + 1) h
  have hgb : ∀ p, p < gNp S j → (0 ≤ grn S j p ∧ grn S j p ≤ 1000) ∧ 0 ≤ clr S j p ∧ clr S j p ≤ 1000 := fun p hp => by
    have h1 := grn_b hI hj hL hp
    have h2 := clr_b (hI.2.2 j hj) p
    omega
  have hz8 := bZ_le (mGn S (grn S j) (clr S j) M j 0 (gNow S) true)
  have hrd : 0 ≤ (mRd M j (mGn S (grn S j) (clr S j) M j 0 (gNow S) true)) ∧ (mRd M j (mGn S (grn S j) (clr S j) M j 0 (gNow S) true)) ≤ 2 := by unfold mRd; split <;> omega
  have hgo : mGo S M j (mGn S (grn S j) (clr S j) M j 0 (gNow S) true) = decide ((mRd M j (mGn S (grn S j) (clr S j) M j 0 (gNow S) true)) = 2 ∧ 0 < M 18 j ∧ (j + 1 = gN S ∨ M 20 j + M 18 (j + 1) < gRoo S j)) := rfl
  refine g_aload_n X dX3_leaves_0 rfl hl 0 rfl ?_
  refine g_iload_n X dX3_leaves_1 rfl hl 1 rfl ?_
  refine g_iconst X dX3_leaves_2 ?_
  refine g_aload_n X dX3_leaves_3 rfl hl 0 rfl ?_
  refine g_get X hk (v := .int (iI (gNow S))) in_X3 rfl (MP.O hM) 14 (by decide) q615 (sI (MR.now hR)) dX3_leaves_4 ?_
  refine g_iconst X dX3_leaves_7 ?_
  refine g_pV X hk (As := [.int (iI ((j : Nat) : Int)), .int (iI 0), .int (iI (gNow S)), .int (iI 1)]) (rest := []) rfl (MP.O hM) (m_isGreenAt l E am S M s.heap hM hI hR j hj 0 (gNow S) (by omega) true hMI (grn S j) (clr S j) hPl hgb) 4 (lw_V q787 q789 qs30 q48 q790) (by decide +kernel) ⟨⟨Nat.le_of_ble_eq_true rfl, Nat.le_of_ble_eq_true rfl⟩, Nat.le_of_ble_eq_true rfl, Nat.le_of_ble_eq_true rfl⟩ rfl rfl hl.1 (Nat.le_of_ble_eq_true rfl) dX3_leaves_8 ?_
  refine g_istore_n (lv' := [(2, .int (iI (bZ (mGn S (grn S j) (clr S j) M j 0 (gNow S) true)))), (0, .ref (am 0)), (1, .int (iI ((j : Nat) : Int)))]) X dX3_leaves_11 rfl hl (by decide) rfl (fun ls hl => ?_)
  refine g_aload_n X dX3_leaves_12 rfl hl 1 rfl ?_
  refine g_get X hk (v := .ref (am 19)) in_X3 rfl (MP.O hM) 19 (by decide) q620 (rfl) dX3_leaves_13 ?_
  refine g_iload_n X dX3_leaves_16 rfl hl 2 rfl ?_
  refine g_iload_n X dX3_leaves_17 rfl hl 0 rfl ?_
  have join_47 : gHide (∀ (z : Int) (ls : Array Slot), z = (mRd M j (mGn S (grn S j) (clr S j) M j 0 (gNow S) true)) → lv_has ls 4 [(2, .int (iI (bZ (mGn S (grn S j) (clr S j) M j 0 (gNow S) true)))), (0, .ref (am 0)), (1, .int (iI ((j : Nat) : Int)))] → W P_ l e_ (gR 4 0 0) s M_ ([.ref (am 0), .int (iI ((j : Nat) : Int))] : List Value).toArray bl mt_ c_ s.heap [] 0 0 (MQ bl (gQv (mW am) (fun H1 => ∃ M1, MP E am M1 H1 ∧ ∀ f i, M1 f i = mLv S M j (mGn S (grn S j) (clr S j) M j 0 (gNow S) true) f i)) ([.ref (am 0), .int (iI ((j : Nat) : Int))] : List Value).toArray s 0 0 (mW am)) (F0 M_ 47 ls [.int (iI z), .int (iI ((j : Nat) : Int)), .ref (am 19)])) := by
    intro z ls e_z hl
    subst e_z
    have hl : lv_has ls 4 [(2, .int (iI (bZ (mGn S (grn S j) (clr S j) M j 0 (gNow S) true)))), (0, .ref (am 0)), (1, .int (iI ((j : Nat) : Int)))] := hl
    refine g_iast X hk hS (MP.A0 hM (Or.inr rfl)) (j := j) (n := 5) (f := (M 19)) (MP.I hM 19 rfl) (rfl) (by omega) dX3_leaves_47 (fun H locs hc_ hk hz_ ho_ hS => ?_)
    obtain ⟨M63, eM63⟩ : ∃ M_ : MS, M_ = mset M 19 j (mRd M j (mGn S (grn S j) (clr S j) M j 0 (gNow S) true)) := ⟨_, rfl⟩
    have hM : MP E am M63 H := by rw [eM63]; exact MP.ast hM 19 rfl hc_ ho_
    have gM63 : ∀ f i, M63 f i = if f = 19 ∧ i = j then (mRd M j (mGn S (grn S j) (clr S j) M j 0 (gNow S) true)) else M f i := by intro f i; rw [eM63]; rfl
    have hR : MR S M63 := by rw [eM63]; exact MR.ign hR rfl
    have hMI : mI M63 := hMI.of (fun f i hf => by rw [gM63, if_neg (by omega)])
    have join_63 : gHide (∀ (z : Int) (ls : Array Slot), z = (bZ (decide (j + 1 = gN S))) → lv_has ls 4 [(2, .int (iI (bZ (mGn S (grn S j) (clr S j) M j 0 (gNow S) true)))), (0, .ref (am 0)), (1, .int (iI ((j : Nat) : Int)))] → W P_ l e_ (gR 4 0 0) s M_ ([.ref (am 0), .int (iI ((j : Nat) : Int))] : List Value).toArray bl mt_ c_ H locs 0 0 (MQ bl (gQv (mW am) (fun H1 => ∃ M1, MP E am M1 H1 ∧ ∀ f i, M1 f i = mLv S M j (mGn S (grn S j) (clr S j) M j 0 (gNow S) true) f i)) ([.ref (am 0), .int (iI ((j : Nat) : Int))] : List Value).toArray s 0 0 (mW am)) (F0 M_ 63 ls [.int (iI z)])) := by
      intro z ls e_z hl
      subst e_z
      have hl : lv_has ls 4 [(2, .int (iI (bZ (mGn S (grn S j) (clr S j) M j 0 (gNow S) true)))), (0, .ref (am 0)), (1, .int (iI ((j : Nat) : Int)))] := hl
      have h63 := bZ_le (decide (j + 1 = gN S))
      refine g_istore_n (lv' := [(3, .int (iI (bZ (decide (j + 1 = gN S))))), (2, .int (iI (bZ (mGn S (grn S j) (clr S j) M j 0 (gNow S) true)))), (0, .ref (am 0)), (1, .int (iI ((j : Nat) : Int)))]) X dX3_leaves_63 rfl hl (by decide) rfl (fun ls hl => ?_)
      refine g_aload_n X dX3_leaves_64 rfl hl 2 rfl ?_
      refine g_get X hk (v := .ref (am 19)) in_X3 rfl (MP.O hM) 19 (by decide) q620 (rfl) dX3_leaves_65 ?_
      refine g_iload_n X dX3_leaves_68 rfl hl 3 rfl ?_
      refine g_ialdv X hk (j := j) (n := 5) (f := (M63 19)) (v := (mRd M j (mGn S (grn S j) (clr S j) M j 0 (gNow S) true))) (MP.I hM 19 rfl) (rfl) (by omega) (by simp [gM63]) dX3_leaves_69 ?_
      refine g_iconst X dX3_leaves_70 ?_
      refine g_icmp_lt X dX3_leaves_71 (tgt := 101) (by decide) (by omega) (fun c71 => ?_) (fun c71 => ?_)
      · exact g_vret X hS (⟨M63, hM, fun f i => by have hg0 : mGo S M j (mGn S (grn S j) (clr S j) M j 0 (gNow S) true) = false := (by rw [hgo]; grind [bZ]); unfold mLv; simp only [gM63, hg0]; grind⟩) ⟨Nat.le_of_ble_eq_true rfl, Nat.le_of_ble_eq_true rfl⟩ dX3_leaves_101
      · refine g_aload_n X dX3_leaves_74 rfl hl 2 rfl ?_
        refine g_get X hk (v := .ref (am 18)) in_X3 rfl (MP.O hM) 18 (by decide) q619 (rfl) dX3_leaves_75 ?_
        refine g_iload_n X dX3_leaves_78 rfl hl 3 rfl ?_
        refine g_ialdv X hk (j := j) (n := 5) (f := (M63 18)) (v := (M 18 j)) (MP.I hM 18 rfl) (rfl) (by omega) (by simp [gM63]) dX3_leaves_79 ?_
        refine g_if_eq X dX3_leaves_80 (tgt := 101) (by decide) (by omega) (fun c80 => ?_) (fun c80 => ?_)
        · exact g_vret X hS (⟨M63, hM, fun f i => by have hg0 : mGo S M j (mGn S (grn S j) (clr S j) M j 0 (gNow S) true) = false := (by rw [hgo]; grind [bZ]); unfold mLv; simp only [gM63, hg0]; grind⟩) ⟨Nat.le_of_ble_eq_true rfl, Nat.le_of_ble_eq_true rfl⟩ dX3_leaves_101
        · refine g_iload_n X dX3_leaves_83 rfl hl 0 rfl ?_
          refine g_if_ne X dX3_leaves_84 (tgt := 102) (by decide) (by omega) (fun c84 => ?_) (fun c84 => ?_)
          · have hg1 : mGo S M j (mGn S (grn S j) (clr S j) M j 0 (gNow S) true) = true := by rw [hgo]; grind [bZ]
            refine g_aload_n X dX3_leaves_102 rfl hl 2 rfl ?_
            refine g_get X hk (v := .ref (am 18)) in_X3 rfl (MP.O hM) 18 (by decide) q619 (rfl) dX3_leaves_103 ?_
            refine g_iload_n X dX3_leaves_106 rfl hl 3 rfl ?_
            refine g_dup2 X dX3_leaves_107 rfl rfl ?_
            refine g_ialdv X hk (j := j) (n := 5) (f := (M63 18)) (v := (M 18 j)) (MP.I hM 18 rfl) (rfl) (by omega) (by simp [gM63]) dX3_leaves_108 ?_
            refine g_iconst X dX3_leaves_109 ?_
            refine g_isub X dX3_leaves_110 ?_
            refine g_iast X hk hS (MP.A0 hM (Or.inr rfl)) (j := j) (n := 5) (f := (M63 18)) (MP.I hM 18 rfl) (rfl) (by omega) dX3_leaves_111 (fun H locs hc_ hk hz_ ho_ hS => ?_)
            obtain ⟨M64, eM64⟩ : ∃ M_ : MS, M_ = mset M63 18 j ((M 18 j) - 1) := ⟨_, rfl⟩
            have hM : MP E am M64 H := by rw [eM64]; exact MP.ast hM 18 rfl hc_ ho_
            have gM64 : ∀ f i, M64 f i = if f = 18 ∧ i = j then ((M 18 j) - 1) else M63 f i := by intro f i; rw [eM64]; rfl
            have hR : MR S M64 := by rw [eM64]; exact MR.ign hR rfl
            have hMI : mI M64 := hMI.of (fun f i hf => by rw [gM64, if_neg (by omega)])
            refine g_aload_n X dX3_leaves_112 rfl hl 2 rfl ?_
            refine g_get X hk (v := .ref (am 19)) in_X3 rfl (MP.O hM) 19 (by decide) q620 (rfl) dX3_leaves_113 ?_
            refine g_iload_n X dX3_leaves_116 rfl hl 3 rfl ?_
            refine g_iconst X dX3_leaves_117 ?_
            refine g_iast X hk hS (MP.A0 hM (Or.inr rfl)) (j := j) (n := 5) (f := (M64 19)) (MP.I hM 19 rfl) (rfl) (by omega) dX3_leaves_118 (fun H locs hc_ hk hz_ ho_ hS => ?_)
            obtain ⟨M65, eM65⟩ : ∃ M_ : MS, M_ = mset M64 19 j 0 := ⟨_, rfl⟩
            have hM : MP E am M65 H := by rw [eM65]; exact MP.ast hM 19 rfl hc_ ho_
            have gM65 : ∀ f i, M65 f i = if f = 19 ∧ i = j then 0 else M64 f i := by intro f i; rw [eM65]; rfl
            have hR : MR S M65 := by rw [eM65]; exact MR.ign hR rfl
            have hMI : mI M65 := hMI.of (fun f i hf => by rw [gM65, if_neg (by omega)])
            refine g_iload_n X dX3_leaves_119 rfl hl 0 rfl ?_
            refine g_if_eq X dX3_leaves_120 (tgt := 136) (by decide) (by omega) (fun c120 => ?_) (fun c120 => ?_)
            · have hnl : j + 1 < gN S := by grind [bZ]
              have h20j := h20 hnl
              have hrj := hroo hnl
              have h18k := h18n hnl
              refine g_aload_n X dX3_leaves_136 rfl hl 2 rfl ?_
              refine g_get X hk (v := .ref (am 21)) in_X3 rfl (MP.O hM) 21 (by decide) q622 (rfl) dX3_leaves_137 ?_
              refine g_bipush X dX3_leaves_140 rfl ?_
              refine g_iload_n X dX3_leaves_142 rfl hl 3 rfl ?_
              refine g_imul X dX3_leaves_143 ?_
              refine g_aload_n X dX3_leaves_144 rfl hl 2 rfl ?_
              refine g_get X hk (v := .ref (am 20)) in_X3 rfl (MP.O hM) 20 (by decide) q621 (rfl) dX3_leaves_145 ?_
              refine g_iload_n X dX3_leaves_148 rfl hl 3 rfl ?_
              refine g_ialdv X hk (j := j) (n := 4) (f := (M65 20)) (v := (M 20 j)) (MP.I hM 20 rfl) (rfl) (by omega) (by simp [gM65, gM64, gM63]) dX3_leaves_149 ?_
              refine g_iadd X dX3_leaves_150 ?_
              refine g_aload_n X dX3_leaves_151 rfl hl 2 rfl ?_
              refine g_get X hk (v := .int (iI (gNow S))) in_X3 rfl (MP.O hM) 14 (by decide) q615 (sI (MR.now hR)) dX3_leaves_152 ?_
              refine g_aload_n X dX3_leaves_155 rfl hl 2 rfl ?_
              refine g_get X hk (v := .ref (am 9)) in_X3 rfl (MP.O hM) 9 (by decide) q610 (rfl) dX3_leaves_156 ?_
              refine g_iload_n X dX3_leaves_159 rfl hl 3 rfl ?_
              refine g_ialdv X hk (j := j) (n := 4) (f := (M65 9)) (v := (gLnk S j)) (MP.I hM 9 rfl) (rfl) (by omega) (MR.lnk hR (by grind [bZ])) dX3_leaves_160 ?_
              refine g_iadd X dX3_leaves_161 ?_
              refine g_iast X hk hS (MP.A0 hM (Or.inr rfl)) (j := 40 * j + (M 20 j).toNat) (n := 160) (f := (M65 21)) (MP.I hM 21 rfl) (by omega) (by omega) dX3_leaves_162 (fun H locs hc_ hk hz_ ho_ hS => ?_)
              obtain ⟨M66, eM66⟩ : ∃ M_ : MS, M_ = mset M65 21 (40 * j + (M 20 j).toNat) ((gNow S) + (gLnk S j)) := ⟨_, rfl⟩
              have hM : MP E am M66 H := by rw [eM66]; exact MP.ast hM 21 rfl hc_ ho_
              have gM66 : ∀ f i, M66 f i = if f = 21 ∧ i = 40 * j + (M 20 j).toNat then ((gNow S) + (gLnk S j)) else M65 f i := by intro f i; rw [eM66]; rfl
              have hR : MR S M66 := by rw [eM66]; exact MR.ign hR rfl
              have hMI : mI M66 := hMI.of (fun f i hf => by rw [gM66, if_neg (by omega)])
              refine g_aload_n X dX3_leaves_163 rfl hl 2 rfl ?_
              refine g_get X hk (v := .ref (am 20)) in_X3 rfl (MP.O hM) 20 (by decide) q621 (rfl) dX3_leaves_164 ?_
              refine g_iload_n X dX3_leaves_167 rfl hl 3 rfl ?_
              refine g_dup2 X dX3_leaves_168 rfl rfl ?_
              refine g_ialdv X hk (j := j) (n := 4) (f := (M66 20)) (v := (M 20 j)) (MP.I hM 20 rfl) (rfl) (by omega) (by simp [gM66, gM65, gM64, gM63]) dX3_leaves_169 ?_
              refine g_iconst X dX3_leaves_170 ?_
              refine g_iadd X dX3_leaves_171 ?_
              refine g_iast X hk hS (MP.A0 hM (Or.inr rfl)) (j := j) (n := 4) (f := (M66 20)) (MP.I hM 20 rfl) (rfl) (by omega) dX3_leaves_172 (fun H locs hc_ hk hz_ ho_ hS => ?_)
              obtain ⟨M67, eM67⟩ : ∃ M_ : MS, M_ = mset M66 20 j ((M 20 j) + 1) := ⟨_, rfl⟩
              have hM : MP E am M67 H := by rw [eM67]; exact MP.ast hM 20 rfl hc_ ho_
              have gM67 : ∀ f i, M67 f i = if f = 20 ∧ i = j then ((M 20 j) + 1) else M66 f i := by intro f i; rw [eM67]; rfl
              have hR : MR S M67 := by rw [eM67]; exact MR.ign hR rfl
              have hMI : mI M67 := hMI.of (fun f i hf => by rw [gM67, if_neg (by omega)])
              exact g_vret X hS (⟨M67, hM, fun f i => by unfold mLv; simp only [gM67, gM66, gM65, gM64, gM63, hg1]; grind [bZ]⟩) ⟨Nat.le_of_ble_eq_true rfl, Nat.le_of_ble_eq_true rfl⟩ dX3_leaves_173
            · refine g_aload_n X dX3_leaves_123 rfl hl 2 rfl ?_
              refine g_dup X dX3_leaves_124 rfl ?_
              refine g_get X hk (v := .int (iI (M65 17 0))) in_X3 rfl (MP.O hM) 17 (by decide) q618 (rfl) dX3_leaves_125 ?_
              refine g_iconst X dX3_leaves_128 ?_
              refine g_iadd X dX3_leaves_129 ?_
              refine g_put X hk hS (MP.A0 hM (Or.inl rfl)) in_X3 tyX3 tyX3_ok nmX3 rfl (MP.O hM) 17 (by decide) q618 rfl (ty := .int) (by decide +kernel) (rfl) rfl (Nat.le_of_ble_eq_true rfl) dX3_leaves_130 (fun H locs hc_ hk hz_ ho_ hS => ?_)
              obtain ⟨M68, eM68⟩ : ∃ M_ : MS, M_ = mset M65 17 0 ((M65 17 0) + 1) := ⟨_, rfl⟩
              have hM : MP E am M68 H := by rw [eM68]; exact MP.put hM 17 rfl hc_ ho_
              have gM68 : ∀ f i, M68 f i = if f = 17 ∧ i = 0 then ((M65 17 0) + 1) else M65 f i := by intro f i; rw [eM68]; rfl
              have hR : MR S M68 := by rw [eM68]; exact MR.ign hR rfl
              have hMI : mI M68 := hMI.of (fun f i hf => by rw [gM68, if_neg (by omega)])
              refine g_goto X dX3_leaves_133 (tgt := 173) (by decide) ?_
              exact g_vret X hS (⟨M68, hM, fun f i => by unfold mLv; simp only [gM68, gM65, gM64, gM63, hg1]; grind [bZ]⟩) ⟨Nat.le_of_ble_eq_true rfl, Nat.le_of_ble_eq_true rfl⟩ dX3_leaves_173
          · refine g_aload_n X dX3_leaves_87 rfl hl 2 rfl ?_
            refine g_iload_n X dX3_leaves_88 rfl hl 3 rfl ?_
            have hnl : j + 1 < gN S := by grind [bZ]
            have h20j := h20 hnl
            have hrj := hroo hnl
            have h18k := h18n hnl
            refine g_pV X hk (As := [.int (iI ((j : Nat) : Int))]) (rest := []) rfl (MP.O hM) (m_heldOf l E am M63 H hM j (by omega)) 1 (lw_V q868 q870 qs40 q48 q871) (by decide +kernel) ⟨⟨Nat.le_of_ble_eq_true rfl, Nat.le_of_ble_eq_true rfl⟩, Nat.le_of_ble_eq_true rfl, Nat.le_of_ble_eq_true rfl⟩ rfl rfl hl.1 (Nat.le_of_ble_eq_true rfl) dX3_leaves_89 ?_
            refine g_aload_n X dX3_leaves_92 rfl hl 2 rfl ?_
            refine g_get X hk (v := .ref (am 10)) in_X3 rfl (MP.O hM) 10 (by decide) q611 (rfl) dX3_leaves_93 ?_
            refine g_iload_n X dX3_leaves_96 rfl hl 3 rfl ?_
            refine g_ialdv X hk (j := j) (n := 4) (f := (M63 10)) (v := (gRoo S j)) (MP.I hM 10 rfl) (rfl) (by omega) (MR.roo hR (by omega)) dX3_leaves_97 ?_
            have e98 : M63 20 j + M63 18 (j + 1) = M 20 j + M 18 (j + 1) := by simp [gM63]
            refine g_icmp_lt X dX3_leaves_98 (tgt := 102) (by decide) (by omega) (fun c98 => ?_) (fun c98 => ?_)
            · have hg1 : mGo S M j (mGn S (grn S j) (clr S j) M j 0 (gNow S) true) = true := by rw [hgo]; grind [bZ]
              refine g_aload_n X dX3_leaves_102 rfl hl 2 rfl ?_
              refine g_get X hk (v := .ref (am 18)) in_X3 rfl (MP.O hM) 18 (by decide) q619 (rfl) dX3_leaves_103 ?_
              refine g_iload_n X dX3_leaves_106 rfl hl 3 rfl ?_
              refine g_dup2 X dX3_leaves_107 rfl rfl ?_
              refine g_ialdv X hk (j := j) (n := 5) (f := (M63 18)) (v := (M 18 j)) (MP.I hM 18 rfl) (rfl) (by omega) (by simp [gM63]) dX3_leaves_108 ?_
              refine g_iconst X dX3_leaves_109 ?_
              refine g_isub X dX3_leaves_110 ?_
              refine g_iast X hk hS (MP.A0 hM (Or.inr rfl)) (j := j) (n := 5) (f := (M63 18)) (MP.I hM 18 rfl) (rfl) (by omega) dX3_leaves_111 (fun H locs hc_ hk hz_ ho_ hS => ?_)
              obtain ⟨M69, eM69⟩ : ∃ M_ : MS, M_ = mset M63 18 j ((M 18 j) - 1) := ⟨_, rfl⟩
              have hM : MP E am M69 H := by rw [eM69]; exact MP.ast hM 18 rfl hc_ ho_
              have gM69 : ∀ f i, M69 f i = if f = 18 ∧ i = j then ((M 18 j) - 1) else M63 f i := by intro f i; rw [eM69]; rfl
              have hR : MR S M69 := by rw [eM69]; exact MR.ign hR rfl
              have hMI : mI M69 := hMI.of (fun f i hf => by rw [gM69, if_neg (by omega)])
              refine g_aload_n X dX3_leaves_112 rfl hl 2 rfl ?_
              refine g_get X hk (v := .ref (am 19)) in_X3 rfl (MP.O hM) 19 (by decide) q620 (rfl) dX3_leaves_113 ?_
              refine g_iload_n X dX3_leaves_116 rfl hl 3 rfl ?_
              refine g_iconst X dX3_leaves_117 ?_
              refine g_iast X hk hS (MP.A0 hM (Or.inr rfl)) (j := j) (n := 5) (f := (M69 19)) (MP.I hM 19 rfl) (rfl) (by omega) dX3_leaves_118 (fun H locs hc_ hk hz_ ho_ hS => ?_)
              obtain ⟨M70, eM70⟩ : ∃ M_ : MS, M_ = mset M69 19 j 0 := ⟨_, rfl⟩
              have hM : MP E am M70 H := by rw [eM70]; exact MP.ast hM 19 rfl hc_ ho_
              have gM70 : ∀ f i, M70 f i = if f = 19 ∧ i = j then 0 else M69 f i := by intro f i; rw [eM70]; rfl
              have hR : MR S M70 := by rw [eM70]; exact MR.ign hR rfl
              have hMI : mI M70 := hMI.of (fun f i hf => by rw [gM70, if_neg (by omega)])
              refine g_iload_n X dX3_leaves_119 rfl hl 0 rfl ?_
              refine g_if_eq X dX3_leaves_120 (tgt := 136) (by decide) (by omega) (fun c120 => ?_) (fun c120 => ?_)
              · have hnl : j + 1 < gN S := by grind [bZ]
                have h20j := h20 hnl
                have hrj := hroo hnl
                have h18k := h18n hnl
                refine g_aload_n X dX3_leaves_136 rfl hl 2 rfl ?_
                refine g_get X hk (v := .ref (am 21)) in_X3 rfl (MP.O hM) 21 (by decide) q622 (rfl) dX3_leaves_137 ?_
                refine g_bipush X dX3_leaves_140 rfl ?_
                refine g_iload_n X dX3_leaves_142 rfl hl 3 rfl ?_
                refine g_imul X dX3_leaves_143 ?_
                refine g_aload_n X dX3_leaves_144 rfl hl 2 rfl ?_
                refine g_get X hk (v := .ref (am 20)) in_X3 rfl (MP.O hM) 20 (by decide) q621 (rfl) dX3_leaves_145 ?_
                refine g_iload_n X dX3_leaves_148 rfl hl 3 rfl ?_
                refine g_ialdv X hk (j := j) (n := 4) (f := (M70 20)) (v := (M 20 j)) (MP.I hM 20 rfl) (rfl) (by omega) (by simp [gM70, gM69, gM63]) dX3_leaves_149 ?_
                refine g_iadd X dX3_leaves_150 ?_
                refine g_aload_n X dX3_leaves_151 rfl hl 2 rfl ?_
                refine g_get X hk (v := .int (iI (gNow S))) in_X3 rfl (MP.O hM) 14 (by decide) q615 (sI (MR.now hR)) dX3_leaves_152 ?_
                refine g_aload_n X dX3_leaves_155 rfl hl 2 rfl ?_
                refine g_get X hk (v := .ref (am 9)) in_X3 rfl (MP.O hM) 9 (by decide) q610 (rfl) dX3_leaves_156 ?_
                refine g_iload_n X dX3_leaves_159 rfl hl 3 rfl ?_
                refine g_ialdv X hk (j := j) (n := 4) (f := (M70 9)) (v := (gLnk S j)) (MP.I hM 9 rfl) (rfl) (by omega) (MR.lnk hR (by grind [bZ])) dX3_leaves_160 ?_
                refine g_iadd X dX3_leaves_161 ?_
                refine g_iast X hk hS (MP.A0 hM (Or.inr rfl)) (j := 40 * j + (M 20 j).toNat) (n := 160) (f := (M70 21)) (MP.I hM 21 rfl) (by omega) (by omega) dX3_leaves_162 (fun H locs hc_ hk hz_ ho_ hS => ?_)
                obtain ⟨M71, eM71⟩ : ∃ M_ : MS, M_ = mset M70 21 (40 * j + (M 20 j).toNat) ((gNow S) + (gLnk S j)) := ⟨_, rfl⟩
                have hM : MP E am M71 H := by rw [eM71]; exact MP.ast hM 21 rfl hc_ ho_
                have gM71 : ∀ f i, M71 f i = if f = 21 ∧ i = 40 * j + (M 20 j).toNat then ((gNow S) + (gLnk S j)) else M70 f i := by intro f i; rw [eM71]; rfl
                have hR : MR S M71 := by rw [eM71]; exact MR.ign hR rfl
                have hMI : mI M71 := hMI.of (fun f i hf => by rw [gM71, if_neg (by omega)])
                refine g_aload_n X dX3_leaves_163 rfl hl 2 rfl ?_
                refine g_get X hk (v := .ref (am 20)) in_X3 rfl (MP.O hM) 20 (by decide) q621 (rfl) dX3_leaves_164 ?_
                refine g_iload_n X dX3_leaves_167 rfl hl 3 rfl ?_
                refine g_dup2 X dX3_leaves_168 rfl rfl ?_
                refine g_ialdv X hk (j := j) (n := 4) (f := (M71 20)) (v := (M 20 j)) (MP.I hM 20 rfl) (rfl) (by omega) (by simp [gM71, gM70, gM69, gM63]) dX3_leaves_169 ?_
                refine g_iconst X dX3_leaves_170 ?_
                refine g_iadd X dX3_leaves_171 ?_
                refine g_iast X hk hS (MP.A0 hM (Or.inr rfl)) (j := j) (n := 4) (f := (M71 20)) (MP.I hM 20 rfl) (rfl) (by omega) dX3_leaves_172 (fun H locs hc_ hk hz_ ho_ hS => ?_)
                obtain ⟨M72, eM72⟩ : ∃ M_ : MS, M_ = mset M71 20 j ((M 20 j) + 1) := ⟨_, rfl⟩
                have hM : MP E am M72 H := by rw [eM72]; exact MP.ast hM 20 rfl hc_ ho_
                have gM72 : ∀ f i, M72 f i = if f = 20 ∧ i = j then ((M 20 j) + 1) else M71 f i := by intro f i; rw [eM72]; rfl
                have hR : MR S M72 := by rw [eM72]; exact MR.ign hR rfl
                have hMI : mI M72 := hMI.of (fun f i hf => by rw [gM72, if_neg (by omega)])
                exact g_vret X hS (⟨M72, hM, fun f i => by unfold mLv; simp only [gM72, gM71, gM70, gM69, gM63, hg1]; grind [bZ]⟩) ⟨Nat.le_of_ble_eq_true rfl, Nat.le_of_ble_eq_true rfl⟩ dX3_leaves_173
              · refine g_aload_n X dX3_leaves_123 rfl hl 2 rfl ?_
                refine g_dup X dX3_leaves_124 rfl ?_
                refine g_get X hk (v := .int (iI (M70 17 0))) in_X3 rfl (MP.O hM) 17 (by decide) q618 (rfl) dX3_leaves_125 ?_
                refine g_iconst X dX3_leaves_128 ?_
                refine g_iadd X dX3_leaves_129 ?_
                refine g_put X hk hS (MP.A0 hM (Or.inl rfl)) in_X3 tyX3 tyX3_ok nmX3 rfl (MP.O hM) 17 (by decide) q618 rfl (ty := .int) (by decide +kernel) (rfl) rfl (Nat.le_of_ble_eq_true rfl) dX3_leaves_130 (fun H locs hc_ hk hz_ ho_ hS => ?_)
                obtain ⟨M73, eM73⟩ : ∃ M_ : MS, M_ = mset M70 17 0 ((M70 17 0) + 1) := ⟨_, rfl⟩
                have hM : MP E am M73 H := by rw [eM73]; exact MP.put hM 17 rfl hc_ ho_
                have gM73 : ∀ f i, M73 f i = if f = 17 ∧ i = 0 then ((M70 17 0) + 1) else M70 f i := by intro f i; rw [eM73]; rfl
                have hR : MR S M73 := by rw [eM73]; exact MR.ign hR rfl
                have hMI : mI M73 := hMI.of (fun f i hf => by rw [gM73, if_neg (by omega)])
                refine g_goto X dX3_leaves_133 (tgt := 173) (by decide) ?_
                exact g_vret X hS (⟨M73, hM, fun f i => by unfold mLv; simp only [gM73, gM70, gM69, gM63, hg1]; grind [bZ]⟩) ⟨Nat.le_of_ble_eq_true rfl, Nat.le_of_ble_eq_true rfl⟩ dX3_leaves_173
            · exact g_vret X hS (⟨M63, hM, fun f i => by have hg0 : mGo S M j (mGn S (grn S j) (clr S j) M j 0 (gNow S) true) = false := (by rw [hgo]; grind [bZ]); unfold mLv; simp only [gM63, hg0]; grind⟩) ⟨Nat.le_of_ble_eq_true rfl, Nat.le_of_ble_eq_true rfl⟩ dX3_leaves_101
    refine g_iload_n X dX3_leaves_48 rfl hl 2 rfl ?_
    refine g_aload_n X dX3_leaves_49 rfl hl 1 rfl ?_
    refine g_get X hk (v := .int (iI (((gN S) : Nat) : Int))) in_X3 rfl (MP.O hM) 1 (by decide) q602 (sI (MR.n hR)) dX3_leaves_50 ?_
    refine g_iconst X dX3_leaves_53 ?_
    refine g_isub X dX3_leaves_54 ?_
    refine g_icmp_ne X dX3_leaves_55 (tgt := 62) (by decide) (by omega) (fun c55 => ?_) (fun c55 => ?_)
    · refine g_iconst X dX3_leaves_62 ?_
      exact join_63.out 0 _ (by grind [bZ]) (lv_sub hl [0, 1, 2] rfl)
    · refine g_iconst X dX3_leaves_58 ?_
      refine g_goto X dX3_leaves_59 (tgt := 63) (by decide) ?_
      exact join_63.out 1 _ (by grind [bZ]) (lv_sub hl [0, 1, 2] rfl)
  refine g_if_ne X dX3_leaves_18 (tgt := 25) (by decide) (by omega) (fun c18 => ?_) (fun c18 => ?_)
  · refine g_aload_n X dX3_leaves_25 rfl hl 1 rfl ?_
    refine g_get X hk (v := .ref (am 19)) in_X3 rfl (MP.O hM) 19 (by decide) q620 (rfl) dX3_leaves_26 ?_
    refine g_iload_n X dX3_leaves_29 rfl hl 2 rfl ?_
    refine g_ialdv X hk (j := j) (n := 5) (f := (M 19)) (v := ((M 19) j)) (MP.I hM 19 rfl) (rfl) (by omega) (rfl) dX3_leaves_30 ?_
    refine g_iconst X dX3_leaves_31 ?_
    refine g_icmp_ge X dX3_leaves_32 (tgt := 46) (by decide) (by omega) (fun c32 => ?_) (fun c32 => ?_)
    · refine g_iconst X dX3_leaves_46 ?_
      exact join_47.out 2 _ (by unfold mRd; grind [bZ]) (lv_sub hl [0, 1, 2] rfl)
    · refine g_aload_n X dX3_leaves_35 rfl hl 1 rfl ?_
      refine g_get X hk (v := .ref (am 19)) in_X3 rfl (MP.O hM) 19 (by decide) q620 (rfl) dX3_leaves_36 ?_
      refine g_iload_n X dX3_leaves_39 rfl hl 2 rfl ?_
      refine g_ialdv X hk (j := j) (n := 5) (f := (M 19)) (v := ((M 19) j)) (MP.I hM 19 rfl) (rfl) (by omega) (rfl) dX3_leaves_40 ?_
      refine g_iconst X dX3_leaves_41 ?_
      refine g_iadd X dX3_leaves_42 ?_
      refine g_goto X dX3_leaves_43 (tgt := 47) (by decide) ?_
      exact join_47.out (((M 19) j) + 1) _ (by unfold mRd; grind [bZ]) (lv_sub hl [0, 1, 2] rfl)
  · refine g_iconst X dX3_leaves_21 ?_
    refine g_goto X dX3_leaves_22 (tgt := 47) (by decide) ?_
    exact join_47.out 0 _ (by unfold mRd; grind [bZ]) (lv_sub hl [0, 1, 2] rfl)
