/-! what each call leaves of the relation -/
section GIS
variable {S : GS} {j k : Nat} {z : Int}
theorem gI_of {S1 : GS} (hI : gI S) (h2 : S1.2 0 0 = S.2 0 0) (h31 : gCyc S1 = gCyc S) (h32 : gNow S1 = gNow S) (h33 : gRun S1 = gRun S) (hJ : ∀ i, i < gN S → jI S i → jI S1 i) : gI S1 := by
  have hn : gN S1 = gN S := h2
  refine ⟨⟨by rw [hn]; exact hI.1.1, by rw [h33]; exact hI.1.2.1, by rw [h32]; exact hI.1.2.2⟩, by rw [h31]; exact hI.2.1, fun i hi => ?_⟩
  rw [hn] at hi
  exact hJ i hi (hI.2.2 i hi)
theorem gI_cf {a b : Nat} (hI : gI S) (hab : a < 4 ∧ b < 4 ∧ a ≠ b) (hz : -1 ≤ z ∧ z ≤ 9) : gI (gset S 1 j (4 * a + b) z) := by
  refine gI_of hI rfl rfl rfl rfl (fun i hi h => ?_)
  obtain ⟨h1, h2, h3, h4⟩ := h
  refine ⟨h1, fun q hq => ?_, fun q hq => ?_, h4⟩
  · show -1 ≤ (if (1 : Nat) = 1 ∧ i = j ∧ q = 4 * a + b then z else S.1 1 i q) ∧ (if (1 : Nat) = 1 ∧ i = j ∧ q = 4 * a + b then z else S.1 1 i q) ≤ 9
    split
    · exact hz
    · exact h2 q hq
  · show (if (1 : Nat) = 1 ∧ i = j ∧ 5 * q = 4 * a + b then z else S.1 1 i (5 * q)) = -1
    rw [if_neg (by omega)]
    exact h3 q hq
theorem gI_fl (hI : gI S) (hz : 0 ≤ z ∧ z ≤ 1800) : gI (gset S 2 j k z) := by
  refine gI_of hI rfl rfl rfl rfl (fun i hi h => ?_)
  obtain ⟨h1, h2, h3, h4, h5⟩ := h
  refine ⟨h1, h2, h3, fun q hq => ?_, h5⟩
  show 0 ≤ (if (2 : Nat) = 2 ∧ i = j ∧ q = k then z else S.1 2 i q) ∧ (if (2 : Nat) = 2 ∧ i = j ∧ q = k then z else S.1 2 i q) ≤ 1800
  split
  · exact hz
  · exact h4 q hq
theorem gI_off (hI : gI S) (hz : 0 ≤ z ∧ z < gCyc S) : gI (gset S 14 j 0 z) := ((offE.rf hI).set hz).gI hI
theorem gI_lnk (hI : gI S) (hz : 1 ≤ z ∧ z ≤ 60) : gI (gset S 15 j 0 z) := by
  refine gI_of hI rfl rfl rfl rfl (fun i hi h => ?_)
  obtain ⟨h1, h2, h3, h4, h5, h6, h7⟩ := h
  refine ⟨h1, h2, h3, h4, h5, ?_, h7⟩
  show 1 ≤ (if (15 : Nat) = 15 ∧ i = j ∧ (0 : Nat) = 0 then z else S.1 15 i 0) ∧ (if (15 : Nat) = 15 ∧ i = j ∧ (0 : Nat) = 0 then z else S.1 15 i 0) ≤ 60
  split
  · exact hz
  · exact h6
theorem gI_roo (hI : gI S) (hz : 1 ≤ z ∧ z ≤ 40) : gI (gset S 16 j 0 z) := by
  refine gI_of hI rfl rfl rfl rfl (fun i hi h => ?_)
  obtain ⟨h1, h2, h3, h4, h5, h6, h7, h8⟩ := h
  refine ⟨h1, h2, h3, h4, h5, h6, ?_, h8⟩
  show 1 ≤ (if (16 : Nat) = 16 ∧ i = j ∧ (0 : Nat) = 0 then z else S.1 16 i 0) ∧ (if (16 : Nat) = 16 ∧ i = j ∧ (0 : Nat) = 0 then z else S.1 16 i 0) ≤ 40
  split
  · exact hz
  · exact h7
theorem gI_phs {n : Nat} {g : Nat → Int} (hI : gI S) (hn : 1 ≤ n ∧ n ≤ 4) (h0 : gChn S j = 0) : gI (gphs S j n g) := by
  refine gI_of hI (by show (if (0 : Nat) = 1 ∧ (0 : Nat) = j then n else S.2 0 0) = S.2 0 0; rw [if_neg (by omega)]) rfl rfl rfl (fun i hi h => ?_)
  have e1 : gNp (gphs S j n g) i = if i = j then n else gNp S i := by
    show (if (1 : Nat) = 1 ∧ i = j then n else S.2 1 i) = _
    by_cases e : i = j
    · rw [if_pos ⟨rfl, e⟩, if_pos e]
    · rw [if_neg (fun q => e q.2), if_neg e]
  have e2 : gChn (gphs S j n g) i = gChn S i := by
    show (if (2 : Nat) = 1 ∧ i = j then n else S.2 2 i) = _
    rw [if_neg (by omega)]
  obtain ⟨h1, h2, h3, h4, h5, h6, h7, h8, h9, h10⟩ := h
  refine ⟨?_, h2, h3, h4, h5, h6, h7, ?_, h9, ?_⟩
  · rw [e1]
    split
    · exact hn
    · exact h1
  · rw [e1, e2]
    by_cases e : i = j
    · rw [e]; exact Or.inl h0
    · rw [if_neg e]; exact h8
  · rw [e1, e2]
    by_cases e : i = j
    · rw [e]; exact fun q => absurd h0 q
    · rw [if_neg e]; exact h10
end GIS
section RLS
variable {S : GS} {M M1 : MS}
theorem L_setConflict {j a b x : Int} (h : RL S M) (e : erC S j a b x = 0) (hR : MR (gset (gset S 1 j.toNat (4 * a.toNat + b.toNat) x) 1 j.toNat (4 * b.toNat + a.toNat) x) M1) (c : mC M M1) : RL (gset (gset S 1 j.toNat (4 * a.toNat + b.toNat) x) 1 j.toNat (4 * b.toNat + a.toNat) x) M1 := by
  have hr : ((0 ≤ a ∧ a ≤ 3) ∧ 0 ≤ b ∧ b ≤ 3) ∧ ¬ a = b ∧ (-1 ≤ x ∧ x ≤ 9) ∧ gRun S = 0 := by unfold erC at e; grind
  exact h.cfg hr.2.2.2 (gI_cf (gI_cf h.1 (by omega) hr.2.2.1) (by omega) hr.2.2.1) hR c rfl (fun _ => rfl) (fun f hf => by rw [gset_f _ _ _ _ (by omega), gset_f _ _ _ _ (by omega)])
theorem L_setPhases {j a b c d : Int} (h : RL S M) (e : erP S j a b c d = 0) (hR : MR (gphs S j.toNat (phN4 b c d) (phF a b c d)) M1) (cc : mC M M1) : RL (gphs S j.toNat (phN4 b c d) (phF a b c d)) M1 := by
  have hr : (0 ≤ j ∧ j ≤ (gN S : Int) - 1) ∧ gRun S = 0 := by unfold erP at e; grind
  have h0 := (h.2.2.2.2.2 hr.2).1 j.toNat (by omega)
  refine h.cfg hr.2 (gI_phs h.1 (phN4_le b c d) h0) hR cc ?_ (fun i => ?_) (fun f hf => ?_)
  · show (if (0 : Nat) = 1 ∧ (0 : Nat) = j.toNat then phN4 b c d else S.2 0 0) = S.2 0 0
    rw [if_neg (by omega)]
  · show (if (2 : Nat) = 1 ∧ i = j.toNat then phN4 b c d else S.2 2 i) = S.2 2 i
    rw [if_neg (by omega)]
  · funext i q
    show (if f = 3 ∧ i = j.toNat then phF a b c d q else S.1 f i q) = _
    rw [if_neg (by omega)]
theorem L_setFlow {j v x : Int} (h : RL S M) (e : erF S j v x = 0) (hR : MR (gset S 2 j.toNat v.toNat x) M1) (c : mC M M1) : RL (gset S 2 j.toNat v.toNat x) M1 := by
  have hr : (0 ≤ x ∧ x ≤ 1800) ∧ gRun S = 0 := by unfold erF at e; grind
  exact h.cfg hr.2 (gI_fl h.1 hr.1) hR c rfl (fun _ => rfl) (fun f hf => gset_f _ _ _ _ (by omega))
theorem L_setLink {j t r : Int} (h : RL S M) (e : erL S j t r = 0) (hR : MR (gset (gset S 15 j.toNat 0 t) 16 j.toNat 0 r) M1) (c : mC M M1) : RL (gset (gset S 15 j.toNat 0 t) 16 j.toNat 0 r) M1 := by
  have hr : ((1 ≤ t ∧ t ≤ 60) ∧ 1 ≤ r ∧ r ≤ 40) ∧ gRun S = 0 := by unfold erL at e; grind
  exact h.cfg hr.2 (gI_roo (gI_lnk h.1 hr.1.1) hr.1.2) hR c rfl (fun _ => rfl) (fun f hf => by rw [gset_f _ _ _ _ (by omega), gset_f _ _ _ _ (by omega)])
theorem L_setOffset {j o : Int} (h : RL S M) (e : erO S j o = 0) (hR : MR (gset S 14 j.toNat 0 o) M1) (c : mC M M1) : RL (gset S 14 j.toNat 0 o) M1 := by
  have hr : (0 ≤ o ∧ o ≤ gCyc S - 1) ∧ gRun S = 0 := by unfold erO at e; grind
  exact h.cfg hr.2 (gI_off h.1 (by omega)) hR c rfl (fun _ => rfl) (fun f hf => gset_f _ _ _ _ (by omega))
theorem L_improve (h : RL S M) (e : erI S = 0) (hR : MR (imS S 10).1 M1) (c : mC M M1) : RL (imS S 10).1 M1 := by
  have hr : gRun S = 0 := by unfold erI at e; grind
  have o := imS_off h.1 10
  exact h.cfg hr (o.gI h.1) hR c o.n (fun j => by show (imS S 10).1.2 2 j = S.2 2 j; rw [o.1]) (fun f hf => o.2.1 f (by omega))
theorem L_begin {n c : Int} (h : RL S M) (e : erB n c = 0) (hM : ∀ f i, ¬ f = 0 → M1 f i = mBg n c M f i) : RL (gBeg n.toNat c) M1 := by
  have hr : (2 ≤ n ∧ n ≤ 5) ∧ 30 ≤ c ∧ c ≤ 90 := by unfold erB at e; grind
  have en : ((n.toNat : Nat) : Int) = n := by omega
  exact RL.beg h.2.2.2.2.1 (n := n.toNat) (by omega) hr.2 (by rw [en]; exact hM)
theorem L_run {t : Int} (h : RL S M) (hG : RG 0 (gset S 33 0 0 1) (sRun (gset S 33 0 0 1) t.toNat) M1) : RL (sRun (gset S 33 0 0 1) t.toNat) M1 := RL.run (gI_run h.1) (gset_s S 33 0 0 1) hG
theorem L_callBus {j v : Int} (h : RL S M) (e : erU S j v = 0) {Mh : MS} (q : mQ M Mh) (hM : ∀ f i, M1 f i = cbM S j.toNat v Mh f i) : RL (cbS S j.toNat v) M1 := by
  have hr : ((0 ≤ j ∧ j ≤ (gN S : Int) - 1) ∧ alP S (gN S) = true) ∧ low S j.toNat v < gNp S j.toNat := by unfold erU at e; grind
  exact h.call (by omega) (alP_L hr.1.2 _ (by omega)) hr.2 q hM
theorem A_phaseNow {j : Int} (h : RL S M) (e : erN S j = 0) : mPh S (grn S j.toNat) (clr S j.toNat) M j.toNat (gNow S) true = phN S j.toNat (grn S j.toNat) (gNow S) := by
  have hr : 0 ≤ j ∧ j ≤ (gN S : Int) - 1 := by unfold erN at e; grind
  have hj : j.toNat < gN S := by omega
  exact ((h.2.2.2.1 _ hj).ph h.1 (by have := (h.1.2.2 _ hj).1; omega) (gNow S)).symm
theorem A_queue {j : Int} (h : RL S M) (e : erJ S j = 0) : M 18 j.toNat = gQue S j.toNat := by
  have hr : 0 ≤ j ∧ j ≤ (gN S : Int) - 1 := by unfold erJ at e; grind
  exact (h.2.2.1.2.1 j.toNat (by omega)).1
theorem A_held {j : Int} (h : RL S M) (e : erH S j = 0) : M 20 j.toNat + M 18 (j.toNat + 1) = gTrv S j.toNat + gQue S (j.toNat + 1) := by
  have hr : 0 ≤ j ∧ j ≤ (gN S : Int) - 2 := by unfold erH at e; grind
  rw [(h.2.2.1.2.1 (j.toNat + 1) (by omega)).1, (h.2.2.1.2.2 j.toNat (by omega)).1]
theorem A_come (h : RL S M) : M 16 0 = gCam S := h.2.2.1.1.1.2.2.1
theorem A_through (h : RL S M) : M 17 0 = gLef S := h.2.2.1.1.1.2.2.2
/-- a sum over the seconds of a cycle is the sum over its places -/
def smK (F : Int → Int) : Nat → Int
  | 0 => 0
  | k + 1 => smK F k + F (k : Int)
theorem smK_add (F : Int → Int) (a : Nat) : ∀ b, smK F (a + b) = smK F a + smK (fun x => F ((a : Int) + x)) b := by
  intro b
  induction b with
  | zero => simp [smK]
  | succ b ih =>
    show smK F (a + b) + F ((a + b : Nat) : Int) = smK F a + (smK (fun x => F ((a : Int) + x)) b + F ((a : Int) + (b : Int)))
    rw [ih, Int.natCast_add]
    omega
theorem smK_c {F G : Int → Int} : ∀ n : Nat, (∀ k : Nat, k < n → F (k : Int) = G (k : Int)) → smK F n = smK G n := by
  intro n
  induction n with
  | zero => intro _; rfl
  | succ n ih =>
    intro h
    simp only [smK]
    rw [ih (fun k hk => h k (by omega)), h n (by omega)]
theorem smK_rot (F : Int → Int) {o c : Nat} (h : o < c) : smK (fun t => F ((t - (o : Int)) % (c : Int))) c = smK F c := by
  have h1 := smK_add (fun t => F ((t - (o : Int)) % (c : Int))) o (c - o)
  have h2 := smK_add F (c - o) o
  rw [show o + (c - o) = c by omega] at h1
  rw [show c - o + o = c by omega] at h2
  rw [h1, h2, Int.add_comm]
  congr 1
  · refine smK_c _ (fun k hk => ?_)
    show F (((o : Int) + (k : Int) - (o : Int)) % (c : Int)) = F (k : Int)
    rw [show (o : Int) + (k : Int) - (o : Int) = (k : Int) by omega, Int.emod_eq_of_lt (by omega) (by omega)]
  · refine smK_c _ (fun k hk => ?_)
    show F (((k : Int) - (o : Int)) % (c : Int)) = F (((c - o : Nat) : Int) + (k : Int))
    rw [show ((k : Int) - (o : Int)) % (c : Int) = ((k : Int) - (o : Int) + (c : Int)) % (c : Int) by rw [Int.add_emod_right], Int.emod_eq_of_lt (by omega) (by omega)]
    congr 1
    omega
theorem A_breaches {j : Int} (h : RL S M) (e : erN S j = 0) : bsM S j.toNat (gCyc S).toNat = bpK S j.toNat (gCyc S).toNat := by
  have hr : 0 ≤ j ∧ j ≤ (gN S : Int) - 1 := by unfold erN at e; grind
  have ho := (h.1.2.2 j.toNat (by omega)).2.2.2.2.1
  have hc := h.1.2.1
  have e1 : ∀ k, bsM S j.toNat k = smK (fun t => bZ (brK S j.toNat ((t - gOff S j.toNat) % gCyc S) 16)) k := by
    intro k
    induction k with
    | zero => rfl
    | succ k ih => simp only [bsM, smK, ih]
  have e2 : ∀ k, bpK S j.toNat k = smK (fun t => bZ (brK S j.toNat t 16)) k := by
    intro k
    induction k with
    | zero => rfl
    | succ k ih => simp only [bpK, smK, ih]
  rw [e1, e2]
  have h3 := smK_rot (fun t => bZ (brK S j.toNat t 16)) (o := (gOff S j.toNat).toNat) (c := (gCyc S).toNat) (by omega)
  rw [Int.toNat_of_nonneg ho.1, Int.toNat_of_nonneg (by omega)] at h3
  exact h3
end RLS
