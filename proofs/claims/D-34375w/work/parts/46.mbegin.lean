/-! the reference begins -/
def mB0 (n c : Int) (M : MS) (f i : Nat) : Int := if i = 0 ∧ f = 1 then n else if i = 0 ∧ f = 2 then c else if i = 0 ∧ (f = 3 ∨ f = 14 ∨ f = 15 ∨ f = 16 ∨ f = 17) then 0 else M f i
def mB1 (N : MS) (k : Nat) (f i : Nat) : Int := if i < k ∧ f = 6 then 2 else if i < k ∧ (f = 8 ∨ f = 18 ∨ f = 19 ∨ f = 22) then 0 else if f = 5 ∧ i < 4 * k ∧ i % 4 = 0 then 3 else if f = 5 ∧ i < 4 * k ∧ i % 4 = 1 then 12 else N f i
theorem mB1_0 (N : MS) (f i : Nat) : mB1 N 0 f i = N f i := by unfold mB1; simp
def mB2 (N : MS) (k : Nat) (f i : Nat) : Int := if i < k ∧ f = 9 then 10 else if i < k ∧ f = 10 then 20 else if i < k ∧ f = 20 then 0 else N f i
def mB3 (N : MS) (k : Nat) (f i : Nat) : Int := if f = 4 ∧ i < k then fcF (i % 16) else if f = 7 ∧ 4 * i < k then 0 else N f i
def mBg (n c : Int) (M : MS) : MS := mB3 (mB2 (mB1 (mB0 n c M) 5) 4) 80
theorem mB3_s {N M1 : MS} {k : Nat} (h : ∀ f i, M1 f i = if f = 7 ∧ i = k / 4 then 0 else if f = 4 ∧ i = k then fcF (k % 16) else mB3 N k f i) (f i : Nat) : M1 f i = mB3 N (k + 1) f i := by
  rw [h]
  unfold mB3
  by_cases h4 : f = 4
  · subst h4
    rw [if_neg (by omega)]
    by_cases hi : i = k
    · subst hi
      rw [if_pos ⟨rfl, rfl⟩, if_pos ⟨rfl, by omega⟩]
    · rw [if_neg (by omega)]
      by_cases hk : i < k
      · rw [if_pos ⟨rfl, hk⟩, if_pos ⟨rfl, by omega⟩]
      · rw [if_neg (by omega), if_neg (by omega), if_neg (by omega), if_neg (by omega)]
  · rw [if_neg (show ¬ (f = 4 ∧ i = k) by omega), if_neg (show ¬ (f = 4 ∧ i < k) by omega), if_neg (show ¬ (f = 4 ∧ i < k + 1) by omega)]
    by_cases h7 : f = 7 ∧ 4 * i < k + 1
    · rw [if_pos h7]
      by_cases hi : i = k / 4
      · rw [if_pos ⟨h7.1, hi⟩]
      · rw [if_neg (by omega), if_pos (by omega)]
    · rw [if_neg (by omega), if_neg (by omega), if_neg h7]
theorem mB2_s {N M1 : MS} {k : Nat} (h : ∀ f i, M1 f i = if f = 20 ∧ i = k then 0 else if f = 10 ∧ i = k then 20 else if f = 9 ∧ i = k then 10 else mB2 N k f i) (f i : Nat) : M1 f i = mB2 N (k + 1) f i := by
  rw [h]
  unfold mB2
  grind
theorem mB1_s {N M1 : MS} {k : Nat} (h : ∀ f i, M1 f i = if f = 22 ∧ i = k then 0 else if f = 19 ∧ i = k then 0 else if f = 18 ∧ i = k then 0 else if f = 8 ∧ i = k then 0 else if f = 5 ∧ i = 4 * k + 1 then 12 else if f = 5 ∧ i = 4 * k then 3 else if f = 6 ∧ i = k then 2 else mB1 N k f i) (f i : Nat) : M1 f i = mB1 N (k + 1) f i := by
  rw [h]
  unfold mB1
  by_cases h5 : f = 5
  · subst h5
    rw [if_neg (by omega), if_neg (by omega), if_neg (by omega), if_neg (by omega)]
    rw [if_neg (show ¬ (i < k ∧ 5 = 6) by omega), if_neg (show ¬ (i < k ∧ (5 = 8 ∨ 5 = 18 ∨ 5 = 19 ∨ 5 = 22)) by omega), if_neg (show ¬ (i < k + 1 ∧ 5 = 6) by omega), if_neg (show ¬ (i < k + 1 ∧ (5 = 8 ∨ 5 = 18 ∨ 5 = 19 ∨ 5 = 22)) by omega)]
    by_cases h1 : i = 4 * k + 1
    · rw [if_pos ⟨rfl, h1⟩, if_neg (show ¬ (5 = 5 ∧ i < 4 * (k + 1) ∧ i % 4 = 0) by omega), if_pos (by omega)]
    · rw [if_neg (by omega)]
      by_cases h0 : i = 4 * k
      · rw [if_pos ⟨rfl, h0⟩, if_pos (by omega)]
      · rw [if_neg (by omega), if_neg (show ¬ (5 = 6 ∧ i = k) by omega)]
        by_cases ha : i < 4 * k ∧ i % 4 = 0
        · rw [if_pos (by omega), if_pos (by omega)]
        · rw [if_neg (show ¬ (5 = 5 ∧ i < 4 * k ∧ i % 4 = 0) by omega), if_neg (show ¬ (5 = 5 ∧ i < 4 * (k + 1) ∧ i % 4 = 0) by omega)]
          by_cases hb : i < 4 * k ∧ i % 4 = 1
          · rw [if_pos (by omega), if_pos (by omega)]
          · rw [if_neg (by omega), if_neg (by omega)]
  · grind
theorem mBg_f {n c : Int} {M : MS} {v : Int} {f i : Nat} (hf : ¬ f = 0) : mBg n c (mset M 0 0 v) f i = mBg n c M f i := by
  have e : mset M 0 0 v f i = M f i := mset_n _ _ (fun e => hf e.1)
  unfold mBg mB3 mB2 mB1 mB0
  rw [e]
theorem mBg_0 (n c : Int) (M : MS) : mBg n c M 0 0 = M 0 0 := by
  unfold mBg mB3 mB2 mB1 mB0
  simp
/-- what begins lays in the common state -/
def gBeg (n : Nat) (c : Int) : GS := (fun f _ k => match f with
  | 1 => fcF k
  | 3 => if k = 0 then 3 else 12
  | 15 => 10
  | 16 => 20
  | 31 => c
  | _ => 0, fun a _ => match a with
  | 0 => n
  | 1 => 2
  | _ => 0)
theorem fcF_b (k : Nat) : fcF k = -1 ∨ fcF k = 3 := by unfold fcF; split <;> omega
theorem gBeg_I {n : Nat} {c : Int} (hn : 2 ≤ n ∧ n ≤ 5) (hc : 30 ≤ c ∧ c ≤ 90) : gI (gBeg n c) := by
  refine ⟨⟨hn, (show (0 : Int) ≤ 0 ∧ (0 : Int) ≤ 1 by decide), (show (0 : Int) ≤ 0 ∧ (0 : Int) ≤ 7200 by decide)⟩, hc, fun j _ => ⟨(show 1 ≤ 2 ∧ 2 ≤ 4 by decide), fun k hk => ?_, fun k hk => ?_, fun k hk => (show (0 : Int) ≤ 0 ∧ (0 : Int) ≤ 1800 by decide), ⟨Int.le_refl 0, ?_⟩, (show (1 : Int) ≤ 10 ∧ (10 : Int) ≤ 60 by decide), (show (1 : Int) ≤ 20 ∧ (20 : Int) ≤ 40 by decide), Or.inl rfl, (show (-90 : Int) ≤ 0 ∧ (0 : Int) ≤ 7200 by decide), fun h => absurd rfl h⟩⟩
  · have : gCf (gBeg n c) j k = fcF k := rfl
    have := fcF_b k
    omega
  · have : gCf (gBeg n c) j (5 * k) = fcF (5 * k) := rfl
    rw [this]
    unfold fcF
    rw [if_pos (by omega)]
  · show (0 : Int) < c
    omega
theorem mBg_R {n : Nat} {c : Int} {M M1 : MS} (hn : 2 ≤ n ∧ n ≤ 5) (e : ∀ f i, M1 f i = mBg n c M f i) : MR (gBeg n c) M1 ∧ MD 0 (gBeg n c) M1 ∧ MC (gBeg n c) M1 := by
  have hg : ∀ f i, mBg n c M f i = if f = 4 ∧ i < 80 then fcF (i % 16) else if f = 7 ∧ 4 * i < 80 then 0 else if i < 4 ∧ f = 9 then 10 else if i < 4 ∧ f = 10 then 20 else if i < 4 ∧ f = 20 then 0 else if i < 5 ∧ f = 6 then 2 else if i < 5 ∧ (f = 8 ∨ f = 18 ∨ f = 19 ∨ f = 22) then 0 else if f = 5 ∧ i < 4 * 5 ∧ i % 4 = 0 then 3 else if f = 5 ∧ i < 4 * 5 ∧ i % 4 = 1 then 12 else if i = 0 ∧ f = 1 then (n : Int) else if i = 0 ∧ f = 2 then c else if i = 0 ∧ (f = 3 ∨ f = 14 ∨ f = 15 ∨ f = 16 ∨ f = 17) then 0 else M f i := fun f i => rfl
  have eS : ∀ f i, M1 f i = _ := fun f i => (e f i).trans (hg f i)
  have z : ∀ f i, ((f = 7 ∧ 4 * i < 80) ∨ (i < 4 ∧ f = 20) ∨ (i < 5 ∧ (f = 8 ∨ f = 18 ∨ f = 19 ∨ f = 22)) ∨ (i = 0 ∧ (f = 3 ∨ f = 14 ∨ f = 15 ∨ f = 16 ∨ f = 17))) → M1 f i = 0 := by
    intro f i h
    rw [eS, if_neg (by omega)]
    by_cases h7 : f = 7 ∧ 4 * i < 80
    · rw [if_pos h7]
    rw [if_neg h7, if_neg (by omega), if_neg (by omega)]
    by_cases h20 : i < 4 ∧ f = 20
    · rw [if_pos h20]
    rw [if_neg h20, if_neg (by omega)]
    by_cases h8 : i < 5 ∧ (f = 8 ∨ f = 18 ∨ f = 19 ∨ f = 22)
    · rw [if_pos h8]
    rw [if_neg h8, if_neg (by omega), if_neg (by omega), if_neg (by omega), if_neg (by omega), if_pos (by omega)]
  refine ⟨⟨?_, ?_, z 3 0 (by omega), z 14 0 (by omega), fun j hj => ?_, fun j hj => ?_⟩, ⟨⟨⟨z 15 0 (by omega), (show (0 : Int) ≤ 0 ∧ (0 : Int) < 3600 by decide), z 16 0 (by omega), z 17 0 (by omega)⟩, (show (0 : Int) ≤ 0 + 0 by decide), fun _ _ => rfl⟩, fun j hj => ?_, fun L hL => ?_⟩, fun j hj => ?_⟩
  · rw [eS, if_neg (by omega), if_neg (by omega), if_neg (by omega), if_neg (by omega), if_neg (by omega), if_neg (by omega), if_neg (by omega), if_neg (by omega), if_neg (by omega), if_pos (by omega)]
    rfl
  · rw [eS, if_neg (by omega), if_neg (by omega), if_neg (by omega), if_neg (by omega), if_neg (by omega), if_neg (by omega), if_neg (by omega), if_neg (by omega), if_neg (by omega), if_neg (by omega), if_pos (by omega)]
    rfl
  · have hj5 : j < n := hj
    refine ⟨?_, fun k hk => ?_, fun k hk => ?_, fun k hk => z 7 _ (by omega), z 8 j (by omega)⟩
    · rw [eS, if_neg (by omega), if_neg (by omega), if_neg (by omega), if_neg (by omega), if_neg (by omega), if_pos (by omega)]
      rfl
    · rw [eS, if_pos (by omega), show (16 * j + k) % 16 = k by omega]
      rfl
    · have hk2 : k < 2 := hk
      rw [eS, if_neg (by omega), if_neg (by omega), if_neg (by omega), if_neg (by omega), if_neg (by omega), if_neg (by omega), if_neg (by omega)]
      by_cases h0 : k = 0
      · subst h0
        rw [if_pos (by omega)]
        rfl
      · rw [if_neg (by omega), if_pos (by omega)]
        have : k = 1 := by omega
        subst this
        rfl
  · have hj5 : j + 1 < n := hj
    refine ⟨?_, ?_⟩
    · rw [eS, if_neg (by omega), if_neg (by omega), if_pos (by omega)]
      rfl
    · rw [eS, if_neg (by omega), if_neg (by omega), if_neg (by omega), if_pos (by omega)]
      rfl
  · have hj5 : j < n := hj
    exact ⟨z 18 j (by omega), z 19 j (by omega), (show (0 : Int) ≤ 0 ∧ (0 : Int) ≤ 2 by decide), Int.le_refl 0⟩
  · have hj5 : L + 1 < n := hL
    refine ⟨z 20 L (by omega), (show (0 : Int) ≤ 0 ∧ (0 : Int) + 0 ≤ 20 by decide), fun k hk => ?_, fun k hk => ?_, fun t _ _ => rfl⟩
    · have : (k : Int) < 0 := hk
      omega
    · have : (k : Int) + 1 < 0 := hk
      omega
  · have hj5 : j < n := hj
    exact ⟨fun _ => z 22 j (by omega), fun h => absurd rfl h⟩
set_option maxHeartbeats 4000000 in
theorem m_begins (l : Launch) (E : EP) (am : Nat → Nat) (M : MS) (H : Heap) (hM : MP E am M H) (n c : Int) : gMv l E yX3_begins cX3_begins 4 0 0 0 H [.ref (am 0), .int (iI n), .int (iI c)] (mW am) (fun H1 => ∃ M1, MP E am M1 H1 ∧ ∀ f i, M1 f i = mBg n c M f i) := by
  refine g_met (plainFor_of_name (by decide)) (Nat.le_of_ble_eq_true rfl) (fun P_ e_ s M_ bl mt_ c_ ls X hmeth_ hk hh hl => ?_)
  subst hh
  have X : gX P_ s M_ mt_ c_ cX3_begins 4 ([.ref (am 0), .int (iI n), .int (iI c)] : List Value).toArray RX3 none := X
  have hl : lv_has ls 4 [(0, .ref (am 0)), (1, .int (iI n)), (2, .int (iI c))] := hl
  have hS : va_S (mW am) s.heap s.heap [] := va_S.rf
  refine g_aload_n X dX3_begins_0 rfl hl 0 rfl ?_
  refine g_iload_n X dX3_begins_1 rfl hl 1 rfl ?_
  refine g_put X hk hS (MP.A0 hM (Or.inl rfl)) in_X3 tyX3 tyX3_ok nmX3 rfl (MP.O hM) 1 (by decide) q602 rfl (ty := .int) (by decide +kernel) (rfl) rfl (Nat.le_of_ble_eq_true rfl) dX3_begins_2 (fun H locs hc_ hk hz_ ho_ hS => ?_)
  obtain ⟨M96, eM96⟩ : ∃ M_ : MS, M_ = mset M 1 0 n := ⟨_, rfl⟩
  have hM : MP E am M96 H := by rw [eM96]; exact MP.put hM 1 rfl hc_ ho_
  have gM96 : ∀ f i, M96 f i = if f = 1 ∧ i = 0 then n else M f i := by intro f i; rw [eM96]; rfl
  refine g_aload_n X dX3_begins_5 rfl hl 0 rfl ?_
  refine g_iload_n X dX3_begins_6 rfl hl 2 rfl ?_
  refine g_put X hk hS (MP.A0 hM (Or.inl rfl)) in_X3 tyX3 tyX3_ok nmX3 rfl (MP.O hM) 2 (by decide) q603 rfl (ty := .int) (by decide +kernel) (rfl) rfl (Nat.le_of_ble_eq_true rfl) dX3_begins_7 (fun H locs hc_ hk hz_ ho_ hS => ?_)
  obtain ⟨M97, eM97⟩ : ∃ M_ : MS, M_ = mset M96 2 0 c := ⟨_, rfl⟩
  have hM : MP E am M97 H := by rw [eM97]; exact MP.put hM 2 rfl hc_ ho_
  have gM97 : ∀ f i, M97 f i = if f = 2 ∧ i = 0 then c else M96 f i := by intro f i; rw [eM97]; rfl
  refine g_aload_n X dX3_begins_10 rfl hl 0 rfl ?_
  refine g_iconst X dX3_begins_11 ?_
  refine g_put X hk hS (MP.A0 hM (Or.inl rfl)) in_X3 tyX3 tyX3_ok nmX3 rfl (MP.O hM) 3 (by decide) q604 rfl (ty := .boolean) (by decide +kernel) (iI_narB _ (by omega)) rfl (Nat.le_of_ble_eq_true rfl) dX3_begins_12 (fun H locs hc_ hk hz_ ho_ hS => ?_)
  obtain ⟨M98, eM98⟩ : ∃ M_ : MS, M_ = mset M97 3 0 0 := ⟨_, rfl⟩
  have hM : MP E am M98 H := by rw [eM98]; exact MP.put hM 3 rfl hc_ ho_
  have gM98 : ∀ f i, M98 f i = if f = 3 ∧ i = 0 then 0 else M97 f i := by intro f i; rw [eM98]; rfl
  refine g_aload_n X dX3_begins_15 rfl hl 0 rfl ?_
  refine g_iconst X dX3_begins_16 ?_
  refine g_put X hk hS (MP.A0 hM (Or.inl rfl)) in_X3 tyX3 tyX3_ok nmX3 rfl (MP.O hM) 14 (by decide) q615 rfl (ty := .int) (by decide +kernel) (rfl) rfl (Nat.le_of_ble_eq_true rfl) dX3_begins_17 (fun H locs hc_ hk hz_ ho_ hS => ?_)
  obtain ⟨M99, eM99⟩ : ∃ M_ : MS, M_ = mset M98 14 0 0 := ⟨_, rfl⟩
  have hM : MP E am M99 H := by rw [eM99]; exact MP.put hM 14 rfl hc_ ho_
  have gM99 : ∀ f i, M99 f i = if f = 14 ∧ i = 0 then 0 else M98 f i := by intro f i; rw [eM99]; rfl
  refine g_aload_n X dX3_begins_20 rfl hl 0 rfl ?_
  refine g_iconst X dX3_begins_21 ?_
  refine g_put X hk hS (MP.A0 hM (Or.inl rfl)) in_X3 tyX3 tyX3_ok nmX3 rfl (MP.O hM) 15 (by decide) q616 rfl (ty := .int) (by decide +kernel) (rfl) rfl (Nat.le_of_ble_eq_true rfl) dX3_begins_22 (fun H locs hc_ hk hz_ ho_ hS => ?_)
  obtain ⟨M100, eM100⟩ : ∃ M_ : MS, M_ = mset M99 15 0 0 := ⟨_, rfl⟩
  have hM : MP E am M100 H := by rw [eM100]; exact MP.put hM 15 rfl hc_ ho_
  have gM100 : ∀ f i, M100 f i = if f = 15 ∧ i = 0 then 0 else M99 f i := by intro f i; rw [eM100]; rfl
  refine g_aload_n X dX3_begins_25 rfl hl 0 rfl ?_
  refine g_iconst X dX3_begins_26 ?_
  refine g_put X hk hS (MP.A0 hM (Or.inl rfl)) in_X3 tyX3 tyX3_ok nmX3 rfl (MP.O hM) 16 (by decide) q617 rfl (ty := .int) (by decide +kernel) (rfl) rfl (Nat.le_of_ble_eq_true rfl) dX3_begins_27 (fun H locs hc_ hk hz_ ho_ hS => ?_)
  obtain ⟨M101, eM101⟩ : ∃ M_ : MS, M_ = mset M100 16 0 0 := ⟨_, rfl⟩
  have hM : MP E am M101 H := by rw [eM101]; exact MP.put hM 16 rfl hc_ ho_
  have gM101 : ∀ f i, M101 f i = if f = 16 ∧ i = 0 then 0 else M100 f i := by intro f i; rw [eM101]; rfl
  refine g_aload_n X dX3_begins_30 rfl hl 0 rfl ?_
  refine g_iconst X dX3_begins_31 ?_
  refine g_put X hk hS (MP.A0 hM (Or.inl rfl)) in_X3 tyX3 tyX3_ok nmX3 rfl (MP.O hM) 17 (by decide) q618 rfl (ty := .int) (by decide +kernel) (rfl) rfl (Nat.le_of_ble_eq_true rfl) dX3_begins_32 (fun H locs hc_ hk hz_ ho_ hS => ?_)
  obtain ⟨M102, eM102⟩ : ∃ M_ : MS, M_ = mset M101 17 0 0 := ⟨_, rfl⟩
  have hM : MP E am M102 H := by rw [eM102]; exact MP.put hM 17 rfl hc_ ho_
  have gM102 : ∀ f i, M102 f i = if f = 17 ∧ i = 0 then 0 else M101 f i := by intro f i; rw [eM102]; rfl
  refine g_iconst X dX3_begins_35 ?_
  refine g_istore_n (lv' := [(3, .int (iI 0)), (0, .ref (am 0)), (1, .int (iI n)), (2, .int (iI c))]) X dX3_begins_36 rfl hl (by decide) rfl (fun ls hl => ?_)
  have loop_37 : gHide (∀ (n_ : Nat) (k : Nat) (Ma : MS) (v3 : Int) (H : Heap) (locs : List Loc), 6 ≤ k + n_ → v3 = ((k : Nat) : Int) → (k ≤ 5) → (∀ f i, Ma f i = mB1 (mB0 n c M) k f i) → (kk E s H) → (va_S (mW am) s.heap H locs) → (MP E am Ma H) → ∀ (ls : Array Slot), lv_has ls 4 [(3, .int (iI v3)), (0, .ref (am 0)), (1, .int (iI n)), (2, .int (iI c))] → W P_ l e_ (gR 0 0 0) s M_ ([.ref (am 0), .int (iI n), .int (iI c)] : List Value).toArray bl mt_ c_ H locs 0 0 (MQ bl (gQv (mW am) (fun H1 => ∃ M1, MP E am M1 H1 ∧ ∀ f i, M1 f i = mBg n c M f i)) ([.ref (am 0), .int (iI n), .int (iI c)] : List Value).toArray s 0 0 (mW am)) (F0 M_ 37 ls [])) := by
    intro n_
    induction n_ with
    | zero => intro k Ma v3 H locs hb_ e_v3 hkb hE hk hS hM ls hl; exact absurd hb_ (by omega)
    | succ n_ ih_37 =>
      replace ih_37 := gHide.mk ih_37
      intro k Ma v3 H locs hb_ e_v3 hkb hE hk hS hM ls hl
      subst e_v3
      have hl : lv_has ls 4 [(3, .int (iI ((k : Nat) : Int))), (0, .ref (am 0)), (1, .int (iI n)), (2, .int (iI c))] := hl
      refine g_iload_n X dX3_begins_37 rfl hl 0 rfl ?_
      refine g_iconst X dX3_begins_38 ?_
      refine g_icmp_ge X dX3_begins_39 (tgt := 104) (by decide) (by omega) (fun c39 => ?_) (fun c39 => ?_)
      · refine g_iconst X dX3_begins_104 ?_
        refine g_istore_n (lv' := [(3, .int (iI 0)), (0, .ref (am 0)), (1, .int (iI n)), (2, .int (iI c))]) X dX3_begins_105 rfl hl (by decide) rfl (fun ls hl => ?_)
        have loop_106 : gHide (∀ (n_ : Nat) (k : Nat) (Mb : MS) (v3 : Int) (H : Heap) (locs : List Loc), 5 ≤ k + n_ → v3 = ((k : Nat) : Int) → (k ≤ 4) → (∀ f i, Mb f i = mB2 (mB1 (mB0 n c M) 5) k f i) → (kk E s H) → (va_S (mW am) s.heap H locs) → (MP E am Mb H) → ∀ (ls : Array Slot), lv_has ls 4 [(3, .int (iI v3)), (0, .ref (am 0)), (1, .int (iI n)), (2, .int (iI c))] → W P_ l e_ (gR 0 0 0) s M_ ([.ref (am 0), .int (iI n), .int (iI c)] : List Value).toArray bl mt_ c_ H locs 0 0 (MQ bl (gQv (mW am) (fun H1 => ∃ M1, MP E am M1 H1 ∧ ∀ f i, M1 f i = mBg n c M f i)) ([.ref (am 0), .int (iI n), .int (iI c)] : List Value).toArray s 0 0 (mW am)) (F0 M_ 106 ls [])) := by
          intro n_
          induction n_ with
          | zero => intro k Mb v3 H locs hb_ e_v3 hkb hE hk hS hM ls hl; exact absurd hb_ (by omega)
          | succ n_ ih_106 =>
            replace ih_106 := gHide.mk ih_106
            intro k Mb v3 H locs hb_ e_v3 hkb hE hk hS hM ls hl
            subst e_v3
            have hl : lv_has ls 4 [(3, .int (iI ((k : Nat) : Int))), (0, .ref (am 0)), (1, .int (iI n)), (2, .int (iI c))] := hl
            refine g_iload_n X dX3_begins_106 rfl hl 0 rfl ?_
            refine g_iconst X dX3_begins_107 ?_
            refine g_icmp_ge X dX3_begins_108 (tgt := 140) (by decide) (by omega) (fun c108 => ?_) (fun c108 => ?_)
            · refine g_iconst X dX3_begins_140 ?_
              refine g_istore_n (lv' := [(3, .int (iI 0)), (0, .ref (am 0)), (1, .int (iI n)), (2, .int (iI c))]) X dX3_begins_141 rfl hl (by decide) rfl (fun ls hl => ?_)
              have loop_142 : gHide (∀ (n_ : Nat) (k : Nat) (Mc : MS) (v3 : Int) (H : Heap) (locs : List Loc), 81 ≤ k + n_ → v3 = ((k : Nat) : Int) → (k ≤ 80) → (∀ f i, Mc f i = mB3 (mB2 (mB1 (mB0 n c M) 5) 4) k f i) → (kk E s H) → (va_S (mW am) s.heap H locs) → (MP E am Mc H) → ∀ (ls : Array Slot), lv_has ls 4 [(3, .int (iI v3)), (0, .ref (am 0)), (1, .int (iI n)), (2, .int (iI c))] → W P_ l e_ (gR 0 0 0) s M_ ([.ref (am 0), .int (iI n), .int (iI c)] : List Value).toArray bl mt_ c_ H locs 0 0 (MQ bl (gQv (mW am) (fun H1 => ∃ M1, MP E am M1 H1 ∧ ∀ f i, M1 f i = mBg n c M f i)) ([.ref (am 0), .int (iI n), .int (iI c)] : List Value).toArray s 0 0 (mW am)) (F0 M_ 142 ls [])) := by
                intro n_
                induction n_ with
                | zero => intro k Mc v3 H locs hb_ e_v3 hkb hE hk hS hM ls hl; exact absurd hb_ (by omega)
                | succ n_ ih_142 =>
                  replace ih_142 := gHide.mk ih_142
                  intro k Mc v3 H locs hb_ e_v3 hkb hE hk hS hM ls hl
                  subst e_v3
                  have hl : lv_has ls 4 [(3, .int (iI ((k : Nat) : Int))), (0, .ref (am 0)), (1, .int (iI n)), (2, .int (iI c))] := hl
                  refine g_iload_n X dX3_begins_142 rfl hl 0 rfl ?_
                  refine g_bipush X dX3_begins_143 rfl ?_
                  refine g_icmp_ge X dX3_begins_145 (tgt := 203) (by decide) (by omega) (fun c145 => ?_) (fun c145 => ?_)
                  · exact g_vret X hS (⟨Mc, hM, fun f i => by rw [hE, show k = 80 by omega]; rfl⟩) ⟨Nat.le_of_ble_eq_true rfl, Nat.le_of_ble_eq_true rfl⟩ dX3_begins_203
                  · refine g_aload_n X dX3_begins_148 rfl hl 1 rfl ?_
                    refine g_get X hk (v := .ref (am 4)) in_X3 rfl (MP.O hM) 4 (by decide) q605 (rfl) dX3_begins_149 ?_
                    refine g_iload_n X dX3_begins_152 rfl hl 0 rfl ?_
                    have join_187 : gHide (∀ (z : Int) (ls : Array Slot), z = (fcF (k % 16)) → lv_has ls 4 [(3, .int (iI ((k : Nat) : Int))), (0, .ref (am 0)), (1, .int (iI n)), (2, .int (iI c))] → W P_ l e_ (gR 0 0 0) s M_ ([.ref (am 0), .int (iI n), .int (iI c)] : List Value).toArray bl mt_ c_ H locs 0 0 (MQ bl (gQv (mW am) (fun H1 => ∃ M1, MP E am M1 H1 ∧ ∀ f i, M1 f i = mBg n c M f i)) ([.ref (am 0), .int (iI n), .int (iI c)] : List Value).toArray s 0 0 (mW am)) (F0 M_ 187 ls [.int (iI z), .int (iI ((k : Nat) : Int)), .ref (am 4)])) := by
                      intro z ls e_z hl
                      subst e_z
                      have hl : lv_has ls 4 [(3, .int (iI ((k : Nat) : Int))), (0, .ref (am 0)), (1, .int (iI n)), (2, .int (iI c))] := hl
                      refine g_iast X hk hS (MP.A0 hM (Or.inr rfl)) (j := k) (n := 80) (f := (Mc 4)) (MP.I hM 4 rfl) (rfl) (by omega) dX3_begins_187 (fun H locs hc_ hk hz_ ho_ hS => ?_)
                      obtain ⟨M103, eM103⟩ : ∃ M_ : MS, M_ = mset Mc 4 k (fcF (k % 16)) := ⟨_, rfl⟩
                      have hM : MP E am M103 H := by rw [eM103]; exact MP.ast hM 4 rfl hc_ ho_
                      have gM103 : ∀ f i, M103 f i = if f = 4 ∧ i = k then (fcF (k % 16)) else Mc f i := by intro f i; rw [eM103]; rfl
                      refine g_aload_n X dX3_begins_188 rfl hl 1 rfl ?_
                      refine g_get X hk (v := .ref (am 7)) in_X3 rfl (MP.O hM) 7 (by decide) q608 (rfl) dX3_begins_189 ?_
                      refine g_iload_n X dX3_begins_192 rfl hl 0 rfl ?_
                      refine g_iconst X dX3_begins_193 ?_
                      refine g_idivN X dX3_begins_194 (by omega) ?_
                      refine g_iconst X dX3_begins_195 ?_
                      refine g_iast X hk hS (MP.A0 hM (Or.inr rfl)) (j := k / 4) (n := 20) (f := (M103 7)) (MP.I hM 7 rfl) (by omega) (by omega) dX3_begins_196 (fun H locs hc_ hk hz_ ho_ hS => ?_)
                      obtain ⟨M104, eM104⟩ : ∃ M_ : MS, M_ = mset M103 7 (k / 4) 0 := ⟨_, rfl⟩
                      have hM : MP E am M104 H := by rw [eM104]; exact MP.ast hM 7 rfl hc_ ho_
                      have gM104 : ∀ f i, M104 f i = if f = 7 ∧ i = k / 4 then 0 else M103 f i := by intro f i; rw [eM104]; rfl
                      refine g_iinc (lv' := [(3, .int (iI (((k : Nat) : Int) + 1))), (0, .ref (am 0)), (1, .int (iI n)), (2, .int (iI c))]) X dX3_begins_197 hl (k := 0) rfl (by decide) rfl (fun ls hl => ?_)
                      refine g_goto X dX3_begins_200 (tgt := 142) (by decide) ?_
                      exact ih_142.out (k + 1) M104 (((k : Nat) : Int) + 1) H locs (by omega) (by omega) (by omega) (mB3_s (fun f i => by simp only [gM104, gM103, hE])) hk hS hM _ (lv_sub hl [0, 1, 2, 3] rfl)
                    refine g_iload_n X dX3_begins_153 rfl hl 0 rfl ?_
                    refine g_iconst X dX3_begins_154 ?_
                    refine g_idivN X dX3_begins_155 (by omega) ?_
                    refine g_iconst X dX3_begins_156 ?_
                    refine g_iremN X dX3_begins_157 (by omega) ?_
                    refine g_iconst X dX3_begins_158 ?_
                    refine g_icmp_ge X dX3_begins_159 (tgt := 166) (by decide) (by omega) (fun c159 => ?_) (fun c159 => ?_)
                    · refine g_iconst X dX3_begins_166 ?_
                      refine g_iload_n X dX3_begins_167 rfl hl 0 rfl ?_
                      refine g_iconst X dX3_begins_168 ?_
                      refine g_iremN X dX3_begins_169 (by omega) ?_
                      refine g_iconst X dX3_begins_170 ?_
                      refine g_icmp_ge X dX3_begins_171 (tgt := 178) (by decide) (by omega) (fun c171 => ?_) (fun c171 => ?_)
                      · refine g_iconst X dX3_begins_178 ?_
                        refine g_icmp_eq X dX3_begins_179 (tgt := 186) (by decide) (by omega) (fun c179 => ?_) (fun c179 => ?_)
                        · refine g_iconst X dX3_begins_186 ?_
                          exact join_187.out (-1) _ (by unfold fcF; split <;> omega) (lv_sub hl [0, 1, 2, 3] rfl)
                        · refine g_iconst X dX3_begins_182 ?_
                          refine g_goto X dX3_begins_183 (tgt := 187) (by decide) ?_
                          exact join_187.out 3 _ (by unfold fcF; split <;> omega) (lv_sub hl [0, 1, 2, 3] rfl)
                      · refine g_iconst X dX3_begins_174 ?_
                        refine g_goto X dX3_begins_175 (tgt := 179) (by decide) ?_
                        refine g_icmp_eq X dX3_begins_179 (tgt := 186) (by decide) (by omega) (fun c179 => ?_) (fun c179 => ?_)
                        · refine g_iconst X dX3_begins_186 ?_
                          exact join_187.out (-1) _ (by unfold fcF; split <;> omega) (lv_sub hl [0, 1, 2, 3] rfl)
                        · refine g_iconst X dX3_begins_182 ?_
                          refine g_goto X dX3_begins_183 (tgt := 187) (by decide) ?_
                          exact join_187.out 3 _ (by unfold fcF; split <;> omega) (lv_sub hl [0, 1, 2, 3] rfl)
                    · refine g_iconst X dX3_begins_162 ?_
                      refine g_goto X dX3_begins_163 (tgt := 167) (by decide) ?_
                      refine g_iload_n X dX3_begins_167 rfl hl 0 rfl ?_
                      refine g_iconst X dX3_begins_168 ?_
                      refine g_iremN X dX3_begins_169 (by omega) ?_
                      refine g_iconst X dX3_begins_170 ?_
                      refine g_icmp_ge X dX3_begins_171 (tgt := 178) (by decide) (by omega) (fun c171 => ?_) (fun c171 => ?_)
                      · refine g_iconst X dX3_begins_178 ?_
                        refine g_icmp_eq X dX3_begins_179 (tgt := 186) (by decide) (by omega) (fun c179 => ?_) (fun c179 => ?_)
                        · refine g_iconst X dX3_begins_186 ?_
                          exact join_187.out (-1) _ (by unfold fcF; split <;> omega) (lv_sub hl [0, 1, 2, 3] rfl)
                        · refine g_iconst X dX3_begins_182 ?_
                          refine g_goto X dX3_begins_183 (tgt := 187) (by decide) ?_
                          exact join_187.out 3 _ (by unfold fcF; split <;> omega) (lv_sub hl [0, 1, 2, 3] rfl)
                      · refine g_iconst X dX3_begins_174 ?_
                        refine g_goto X dX3_begins_175 (tgt := 179) (by decide) ?_
                        refine g_icmp_eq X dX3_begins_179 (tgt := 186) (by decide) (by omega) (fun c179 => ?_) (fun c179 => ?_)
                        · refine g_iconst X dX3_begins_186 ?_
                          exact join_187.out (-1) _ (by unfold fcF; split <;> omega) (lv_sub hl [0, 1, 2, 3] rfl)
                        · refine g_iconst X dX3_begins_182 ?_
                          refine g_goto X dX3_begins_183 (tgt := 187) (by decide) ?_
                          exact join_187.out 3 _ (by unfold fcF; split <;> omega) (lv_sub hl [0, 1, 2, 3] rfl)
              exact loop_142.out 81 0 Mb 0 H locs (by omega) (rfl) (by omega) (fun f i => by rw [hE, show k = 4 by omega]; unfold mB3; simp) hk hS hM _ (lv_sub hl [0, 1, 2, 3] rfl)
            · refine g_aload_n X dX3_begins_111 rfl hl 1 rfl ?_
              refine g_get X hk (v := .ref (am 9)) in_X3 rfl (MP.O hM) 9 (by decide) q610 (rfl) dX3_begins_112 ?_
              refine g_iload_n X dX3_begins_115 rfl hl 0 rfl ?_
              refine g_bipush X dX3_begins_116 rfl ?_
              refine g_iast X hk hS (MP.A0 hM (Or.inr rfl)) (j := k) (n := 4) (f := (Mb 9)) (MP.I hM 9 rfl) (rfl) (by omega) dX3_begins_118 (fun H locs hc_ hk hz_ ho_ hS => ?_)
              obtain ⟨M105, eM105⟩ : ∃ M_ : MS, M_ = mset Mb 9 k 10 := ⟨_, rfl⟩
              have hM : MP E am M105 H := by rw [eM105]; exact MP.ast hM 9 rfl hc_ ho_
              have gM105 : ∀ f i, M105 f i = if f = 9 ∧ i = k then 10 else Mb f i := by intro f i; rw [eM105]; rfl
              refine g_aload_n X dX3_begins_119 rfl hl 1 rfl ?_
              refine g_get X hk (v := .ref (am 10)) in_X3 rfl (MP.O hM) 10 (by decide) q611 (rfl) dX3_begins_120 ?_
              refine g_iload_n X dX3_begins_123 rfl hl 0 rfl ?_
              refine g_bipush X dX3_begins_124 rfl ?_
              refine g_iast X hk hS (MP.A0 hM (Or.inr rfl)) (j := k) (n := 4) (f := (M105 10)) (MP.I hM 10 rfl) (rfl) (by omega) dX3_begins_126 (fun H locs hc_ hk hz_ ho_ hS => ?_)
              obtain ⟨M106, eM106⟩ : ∃ M_ : MS, M_ = mset M105 10 k 20 := ⟨_, rfl⟩
              have hM : MP E am M106 H := by rw [eM106]; exact MP.ast hM 10 rfl hc_ ho_
              have gM106 : ∀ f i, M106 f i = if f = 10 ∧ i = k then 20 else M105 f i := by intro f i; rw [eM106]; rfl
              refine g_aload_n X dX3_begins_127 rfl hl 1 rfl ?_
              refine g_get X hk (v := .ref (am 20)) in_X3 rfl (MP.O hM) 20 (by decide) q621 (rfl) dX3_begins_128 ?_
              refine g_iload_n X dX3_begins_131 rfl hl 0 rfl ?_
              refine g_iconst X dX3_begins_132 ?_
              refine g_iast X hk hS (MP.A0 hM (Or.inr rfl)) (j := k) (n := 4) (f := (M106 20)) (MP.I hM 20 rfl) (rfl) (by omega) dX3_begins_133 (fun H locs hc_ hk hz_ ho_ hS => ?_)
              obtain ⟨M107, eM107⟩ : ∃ M_ : MS, M_ = mset M106 20 k 0 := ⟨_, rfl⟩
              have hM : MP E am M107 H := by rw [eM107]; exact MP.ast hM 20 rfl hc_ ho_
              have gM107 : ∀ f i, M107 f i = if f = 20 ∧ i = k then 0 else M106 f i := by intro f i; rw [eM107]; rfl
              refine g_iinc (lv' := [(3, .int (iI (((k : Nat) : Int) + 1))), (0, .ref (am 0)), (1, .int (iI n)), (2, .int (iI c))]) X dX3_begins_134 hl (k := 0) rfl (by decide) rfl (fun ls hl => ?_)
              refine g_goto X dX3_begins_137 (tgt := 106) (by decide) ?_
              exact ih_106.out (k + 1) M107 (((k : Nat) : Int) + 1) H locs (by omega) (by omega) (by omega) (mB2_s (fun f i => by simp only [gM107, gM106, gM105, hE])) hk hS hM _ (lv_sub hl [0, 1, 2, 3] rfl)
        exact loop_106.out 5 0 Ma 0 H locs (by omega) (rfl) (by omega) (fun f i => by rw [hE, show k = 5 by omega]; unfold mB2; simp) hk hS hM _ (lv_sub hl [0, 1, 2, 3] rfl)
      · refine g_aload_n X dX3_begins_42 rfl hl 1 rfl ?_
        refine g_get X hk (v := .ref (am 6)) in_X3 rfl (MP.O hM) 6 (by decide) q607 (rfl) dX3_begins_43 ?_
        refine g_iload_n X dX3_begins_46 rfl hl 0 rfl ?_
        refine g_iconst X dX3_begins_47 ?_
        refine g_iast X hk hS (MP.A0 hM (Or.inr rfl)) (j := k) (n := 5) (f := (Ma 6)) (MP.I hM 6 rfl) (rfl) (by omega) dX3_begins_48 (fun H locs hc_ hk hz_ ho_ hS => ?_)
        obtain ⟨M108, eM108⟩ : ∃ M_ : MS, M_ = mset Ma 6 k 2 := ⟨_, rfl⟩
        have hM : MP E am M108 H := by rw [eM108]; exact MP.ast hM 6 rfl hc_ ho_
        have gM108 : ∀ f i, M108 f i = if f = 6 ∧ i = k then 2 else Ma f i := by intro f i; rw [eM108]; rfl
        refine g_aload_n X dX3_begins_49 rfl hl 1 rfl ?_
        refine g_get X hk (v := .ref (am 5)) in_X3 rfl (MP.O hM) 5 (by decide) q606 (rfl) dX3_begins_50 ?_
        refine g_iconst X dX3_begins_53 ?_
        refine g_iload_n X dX3_begins_54 rfl hl 0 rfl ?_
        refine g_imul X dX3_begins_55 ?_
        refine g_iconst X dX3_begins_56 ?_
        refine g_iast X hk hS (MP.A0 hM (Or.inr rfl)) (j := 4 * k) (n := 20) (f := (M108 5)) (MP.I hM 5 rfl) (by omega) (by omega) dX3_begins_57 (fun H locs hc_ hk hz_ ho_ hS => ?_)
        obtain ⟨M109, eM109⟩ : ∃ M_ : MS, M_ = mset M108 5 (4 * k) 3 := ⟨_, rfl⟩
        have hM : MP E am M109 H := by rw [eM109]; exact MP.ast hM 5 rfl hc_ ho_
        have gM109 : ∀ f i, M109 f i = if f = 5 ∧ i = 4 * k then 3 else M108 f i := by intro f i; rw [eM109]; rfl
        refine g_aload_n X dX3_begins_58 rfl hl 1 rfl ?_
        refine g_get X hk (v := .ref (am 5)) in_X3 rfl (MP.O hM) 5 (by decide) q606 (rfl) dX3_begins_59 ?_
        refine g_iconst X dX3_begins_62 ?_
        refine g_iload_n X dX3_begins_63 rfl hl 0 rfl ?_
        refine g_imul X dX3_begins_64 ?_
        refine g_iconst X dX3_begins_65 ?_
        refine g_iadd X dX3_begins_66 ?_
        refine g_bipush X dX3_begins_67 rfl ?_
        refine g_iast X hk hS (MP.A0 hM (Or.inr rfl)) (j := 4 * k + 1) (n := 20) (f := (M109 5)) (MP.I hM 5 rfl) (by omega) (by omega) dX3_begins_69 (fun H locs hc_ hk hz_ ho_ hS => ?_)
        obtain ⟨M110, eM110⟩ : ∃ M_ : MS, M_ = mset M109 5 (4 * k + 1) 12 := ⟨_, rfl⟩
        have hM : MP E am M110 H := by rw [eM110]; exact MP.ast hM 5 rfl hc_ ho_
        have gM110 : ∀ f i, M110 f i = if f = 5 ∧ i = 4 * k + 1 then 12 else M109 f i := by intro f i; rw [eM110]; rfl
        refine g_aload_n X dX3_begins_70 rfl hl 1 rfl ?_
        refine g_get X hk (v := .ref (am 8)) in_X3 rfl (MP.O hM) 8 (by decide) q609 (rfl) dX3_begins_71 ?_
        refine g_iload_n X dX3_begins_74 rfl hl 0 rfl ?_
        refine g_iconst X dX3_begins_75 ?_
        refine g_iast X hk hS (MP.A0 hM (Or.inr rfl)) (j := k) (n := 5) (f := (M110 8)) (MP.I hM 8 rfl) (rfl) (by omega) dX3_begins_76 (fun H locs hc_ hk hz_ ho_ hS => ?_)
        obtain ⟨M111, eM111⟩ : ∃ M_ : MS, M_ = mset M110 8 k 0 := ⟨_, rfl⟩
        have hM : MP E am M111 H := by rw [eM111]; exact MP.ast hM 8 rfl hc_ ho_
        have gM111 : ∀ f i, M111 f i = if f = 8 ∧ i = k then 0 else M110 f i := by intro f i; rw [eM111]; rfl
        refine g_aload_n X dX3_begins_77 rfl hl 1 rfl ?_
        refine g_get X hk (v := .ref (am 18)) in_X3 rfl (MP.O hM) 18 (by decide) q619 (rfl) dX3_begins_78 ?_
        refine g_iload_n X dX3_begins_81 rfl hl 0 rfl ?_
        refine g_iconst X dX3_begins_82 ?_
        refine g_iast X hk hS (MP.A0 hM (Or.inr rfl)) (j := k) (n := 5) (f := (M111 18)) (MP.I hM 18 rfl) (rfl) (by omega) dX3_begins_83 (fun H locs hc_ hk hz_ ho_ hS => ?_)
        obtain ⟨M112, eM112⟩ : ∃ M_ : MS, M_ = mset M111 18 k 0 := ⟨_, rfl⟩
        have hM : MP E am M112 H := by rw [eM112]; exact MP.ast hM 18 rfl hc_ ho_
        have gM112 : ∀ f i, M112 f i = if f = 18 ∧ i = k then 0 else M111 f i := by intro f i; rw [eM112]; rfl
        refine g_aload_n X dX3_begins_84 rfl hl 1 rfl ?_
        refine g_get X hk (v := .ref (am 19)) in_X3 rfl (MP.O hM) 19 (by decide) q620 (rfl) dX3_begins_85 ?_
        refine g_iload_n X dX3_begins_88 rfl hl 0 rfl ?_
        refine g_iconst X dX3_begins_89 ?_
        refine g_iast X hk hS (MP.A0 hM (Or.inr rfl)) (j := k) (n := 5) (f := (M112 19)) (MP.I hM 19 rfl) (rfl) (by omega) dX3_begins_90 (fun H locs hc_ hk hz_ ho_ hS => ?_)
        obtain ⟨M113, eM113⟩ : ∃ M_ : MS, M_ = mset M112 19 k 0 := ⟨_, rfl⟩
        have hM : MP E am M113 H := by rw [eM113]; exact MP.ast hM 19 rfl hc_ ho_
        have gM113 : ∀ f i, M113 f i = if f = 19 ∧ i = k then 0 else M112 f i := by intro f i; rw [eM113]; rfl
        refine g_aload_n X dX3_begins_91 rfl hl 1 rfl ?_
        refine g_get X hk (v := .ref (am 22)) in_X3 rfl (MP.O hM) 22 (by decide) q623 (rfl) dX3_begins_92 ?_
        refine g_iload_n X dX3_begins_95 rfl hl 0 rfl ?_
        refine g_iconst X dX3_begins_96 ?_
        refine g_bast X hk hS (MP.A0 hM (Or.inr rfl)) (j := k) (n := 5) (f := (M113 22)) (MP.Z hM 22 rfl) (by omega) (rfl) (by omega) dX3_begins_97 (fun H locs hc_ hk hz_ ho_ hS => ?_)
        obtain ⟨M114, eM114⟩ : ∃ M_ : MS, M_ = mset M113 22 k 0 := ⟨_, rfl⟩
        have hM : MP E am M114 H := by rw [eM114]; exact MP.astZ hM 22 rfl hc_ ho_
        have gM114 : ∀ f i, M114 f i = if f = 22 ∧ i = k then 0 else M113 f i := by intro f i; rw [eM114]; rfl
        refine g_iinc (lv' := [(3, .int (iI (((k : Nat) : Int) + 1))), (0, .ref (am 0)), (1, .int (iI n)), (2, .int (iI c))]) X dX3_begins_98 hl (k := 0) rfl (by decide) rfl (fun ls hl => ?_)
        refine g_goto X dX3_begins_101 (tgt := 37) (by decide) ?_
        have hE2 := mB1_s (N := mB0 n c M) (k := k) (M1 := M114) (fun f i => by simp only [gM114, gM113, gM112, gM111, gM110, gM109, gM108, hE])
        exact ih_37.out (k + 1) M114 (((k : Nat) : Int) + 1) H locs (by omega) (by omega) (by omega) hE2 hk hS hM _ (lv_sub hl [0, 1, 2, 3] rfl)
  have hE0 : ∀ f i, M102 f i = mB1 (mB0 n c M) 0 f i := by
    intro f i
    rw [mB1_0]
    simp only [gM102, gM101, gM100, gM99, gM98, gM97, gM96]
    unfold mB0
    by_cases hi : i = 0
    · subst hi; simp only [and_true, true_and]; grind
    · simp only [hi, and_false, false_and, if_false]
  exact loop_37.out 6 0 M102 0 H locs (by omega) (rfl) (by omega) hE0 hk hS hM _ (lv_sub hl [0, 1, 2, 3] rfl)
set_option maxHeartbeats 4000000 in
theorem m_begin (l : Launch) (E : EP) (am : Nat → Nat) (M : MS) (H : Heap) (hM : MP E am M H) (n c : Int) (hn : -2147483648 ≤ n ∧ n ≤ 2147483647) (hc : -2147483648 ≤ c ∧ c ≤ 2147483647) : gMv l E yX3_begin cX3_begin 3 1 0 0 H [.ref (am 0), .int (iI n), .int (iI c)] (mW am) (fun H1 => ∃ M1, MP E am M1 H1 ∧ M1 0 0 = erB n c ∧ (erB n c = 0 → ∀ f i, ¬ f = 0 → M1 f i = mBg n c M f i) ∧ (¬ erB n c = 0 → mQ M M1)) := by
  refine g_met (plainFor_of_name (by decide)) (Nat.le_of_ble_eq_true rfl) (fun P_ e_ s M_ bl mt_ c_ ls X hmeth_ hk hh hl => ?_)
  subst hh
  have X : gX P_ s M_ mt_ c_ cX3_begin 3 ([.ref (am 0), .int (iI n), .int (iI c)] : List Value).toArray RX3 none := X
  have hl : lv_has ls 3 [(0, .ref (am 0)), (1, .int (iI n)), (2, .int (iI c))] := hl
  have hS : va_S (mW am) s.heap s.heap [] := va_S.rf
  have her : 0 ≤ erB n c ∧ erB n c ≤ 1 := by unfold erB; grind
  refine g_aload_n X dX3_begin_0 rfl hl 0 rfl ?_
  have join_26 : gHide (∀ (z : Int) (ls : Array Slot), z = (erB n c) → lv_has ls 3 [(0, .ref (am 0)), (1, .int (iI n)), (2, .int (iI c))] → W P_ l e_ (gR 1 0 0) s M_ ([.ref (am 0), .int (iI n), .int (iI c)] : List Value).toArray bl mt_ c_ s.heap [] 0 0 (MQ bl (gQv (mW am) (fun H1 => ∃ M1, MP E am M1 H1 ∧ M1 0 0 = erB n c ∧ (erB n c = 0 → ∀ f i, ¬ f = 0 → M1 f i = mBg n c M f i) ∧ (¬ erB n c = 0 → mQ M M1))) ([.ref (am 0), .int (iI n), .int (iI c)] : List Value).toArray s 0 0 (mW am)) (F0 M_ 26 ls [.int (iI z), .ref (am 0)])) := by
    intro z ls e_z hl
    subst e_z
    have hl : lv_has ls 3 [(0, .ref (am 0)), (1, .int (iI n)), (2, .int (iI c))] := hl
    refine g_calli (g_runV X hk (As := [.int (iI (erB n c))]) (rest := []) rfl (MP.O hM) (m_holds l E am M s.heap hM (erB n c) (by omega)) 1 (lw_V q694 q696 qs15 q48 q697) (by decide +kernel) ⟨⟨Nat.le_of_ble_eq_true rfl, Nat.le_of_ble_eq_true rfl⟩, Nat.le_of_ble_eq_true rfl, Nat.le_of_ble_eq_true rfl⟩ rfl rfl hl.1 (Nat.le_of_ble_eq_true rfl) dX3_begin_26) hk hS (fun q h => h) (MP.N hM) (fun z_ H locs hP_ hk hz_ ho_ hS => ?_)
    obtain ⟨hz0_, hM⟩ := hP_
    subst hz0_
    obtain ⟨M115, eM115⟩ : ∃ M_ : MS, M_ = mset M 0 0 (erB n c) := ⟨_, rfl⟩
    rw [← eM115] at hM
    have qM115 : mQ M M115 := by rw [eM115]; exact mset_Q M (Or.inl rfl)
    have tM115 : M115 0 0 = (erB n c) := by rw [eM115]; exact mset_s _ _ _ _
    have zM115 : ∀ f i, f ≠ 0 → M115 f i = M f i := fun f i hf => by rw [eM115]; exact mset_n _ _ (fun e => hf e.1)
    have hz9 := bZ_le (decide (erB n c = 0))
    refine g_if_eq X dX3_begin_29 (tgt := 38) (by decide) (by omega) (fun c29 => ?_) (fun c29 => ?_)
    · exact g_vret X hS (⟨M115, hM, tM115, fun h => absurd h (by grind [bZ]), fun _ => qM115⟩) ⟨Nat.le_of_ble_eq_true rfl, Nat.le_of_ble_eq_true rfl⟩ dX3_begin_38
    · refine g_aload_n X dX3_begin_32 rfl hl 0 rfl ?_
      refine g_iload_n X dX3_begin_33 rfl hl 1 rfl ?_
      refine g_iload_n X dX3_begin_34 rfl hl 2 rfl ?_
      refine g_callv (g_runV X hk (As := [.int (iI n), .int (iI c)]) (rest := []) rfl (MP.O hM) (m_begins l E am M115 H hM n c) 2 (lw_V q597 q599 qs14 q48 q600) (by decide +kernel) ⟨⟨Nat.le_of_ble_eq_true rfl, Nat.le_of_ble_eq_true rfl⟩, Nat.le_of_ble_eq_true rfl, Nat.le_of_ble_eq_true rfl⟩ rfl rfl hl.1 (Nat.le_of_ble_eq_true rfl) dX3_begin_35) hk hS (fun q h => h) (MP.N hM) (fun H locs hP_ hk hz_ ho_ hS => ?_)
      obtain ⟨M116, hM, eM116⟩ := hP_
      exact g_vret X hS (⟨M116, hM, (by rw [eM116, mBg_0, tM115]), fun _ f i hf => (by rw [eM116, eM115]; exact mBg_f hf), fun h => absurd (by grind [bZ]) h⟩) ⟨Nat.le_of_ble_eq_true rfl, Nat.le_of_ble_eq_true rfl⟩ dX3_begin_38
  refine g_iload_n X dX3_begin_1 rfl hl 1 rfl ?_
  refine g_iconst X dX3_begin_2 ?_
  refine g_iconst X dX3_begin_3 ?_
  refine g_pS X hk (As := [.int (iI n), .int (iI 2), .int (iI 5)]) (rest := [.ref (am 0)]) (m_in l E n 2 5 s.heap (by omega) (by omega) (by omega)) 3 (lw_S q691 q692 q48 q693) (by decide +kernel) ⟨⟨Nat.le_of_ble_eq_true rfl, Nat.le_of_ble_eq_true rfl⟩, Nat.le_of_ble_eq_true rfl, Nat.le_of_ble_eq_true rfl⟩ rfl rfl hl.1 (Nat.le_of_ble_eq_true rfl) dX3_begin_4 ?_
  have h7 := bZ_le (decide (2 ≤ n ∧ n ≤ 5))
  refine g_if_eq X dX3_begin_7 (tgt := 25) (by decide) (by omega) (fun c7 => ?_) (fun c7 => ?_)
  · refine g_iconst X dX3_begin_25 ?_
    exact join_26.out 1 _ (by unfold erB; grind [bZ]) (lv_sub hl [0, 1, 2] rfl)
  · refine g_iload_n X dX3_begin_10 rfl hl 2 rfl ?_
    refine g_bipush X dX3_begin_11 rfl ?_
    refine g_bipush X dX3_begin_13 rfl ?_
    refine g_pS X hk (As := [.int (iI c), .int (iI 30), .int (iI 90)]) (rest := [.ref (am 0)]) (m_in l E c 30 90 s.heap (by omega) (by omega) (by omega)) 3 (lw_S q691 q692 q48 q693) (by decide +kernel) ⟨⟨Nat.le_of_ble_eq_true rfl, Nat.le_of_ble_eq_true rfl⟩, Nat.le_of_ble_eq_true rfl, Nat.le_of_ble_eq_true rfl⟩ rfl rfl hl.1 (Nat.le_of_ble_eq_true rfl) dX3_begin_15 ?_
    have h18 := bZ_le (decide (30 ≤ c ∧ c ≤ 90))
    refine g_if_eq X dX3_begin_18 (tgt := 25) (by decide) (by omega) (fun c18 => ?_) (fun c18 => ?_)
    · refine g_iconst X dX3_begin_25 ?_
      exact join_26.out 1 _ (by unfold erB; grind [bZ]) (lv_sub hl [0, 1, 2] rfl)
    · refine g_iconst X dX3_begin_21 ?_
      refine g_goto X dX3_begin_22 (tgt := 26) (by decide) ?_
      exact join_26.out 0 _ (by unfold erB; grind [bZ]) (lv_sub hl [0, 1, 2] rfl)
