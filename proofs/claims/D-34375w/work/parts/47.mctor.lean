/-! the reference is made -/
section OI
variable {p : Program} {l : Launch} {e : Env} {R : Room} {s : State} {m : MethodId} {args : Array Value} {below : List Frame} {meth : Method} {c : Code} {H : Heap} {locs : List Loc} {cells slots : Nat} {Q : State → Prop}
variable {cc : ByteArray} {nL : Nat} {own : String} {ret : Option FieldType} {pc : Nat} {ls : Array Slot} {rest : List Value} {E : EP}
theorem g_oinit (X : gX p s m meth c cc nL args own ret) {index a : Nat} (hlink : Cond.methodLink own index Lib.objectInit ∈ lw_all) (hi : Cond.instanceMethod Lib.objectInit ∈ lw_all) (hc : Cond.code Lib.objectInit ⟨#[0xb1]⟩ 1 none ∈ lw_all) (hls : ls.size = nL) (hW : (rest.map fun v => v.category).sum ≤ 8) (hdg : decode cc pc = .ok (.invokespecial index, 3))
    (hR : 1 ≤ R.frames ∧ 20 ≤ R.locals) (k : W p l e R s m args below meth c H locs cells slots Q (F0 m (pc + 3) ls rest)) : W p l e R s m args below meth c H locs cells slots Q (F0 m pc ls (.ref a :: rest)) :=
  W.objInit X.1.1 X.1.2.1 X.1.2.2.2.1 (X.1.2.2.2.2 _ hlink) (X.1.2.2.2.2 _ hi) (X.1.2.2.2.2 _ hc) rfl (hls.trans X.1.2.2.1.symm) rfl hdg hR.1 (by show 2 * 0 + _ + 12 ≤ _; omega) (W.eq (g2 := F0 m (pc + 3) ls rest) rfl k)
end OI
abbrev mNew : List Value := [.int (iI 0), .int (iI 0), .int (iI 0), .int (iI 0), .null, .null, .null, .null, .null, .null, .null, .null, .null, .null, .int (iI 0), .int (iI 0), .int (iI 0), .int (iI 0), .null, .null, .null, .null, .null, .null, .null, .null, .null]
/-- where the reference's arrays lie; the arrays made up to K -/
def cAm (a sz : Nat) : Nat → Nat := fun k => if k = 0 then a else if k ≤ 13 then sz + (k - 4) else sz + (k - 8)
def cCell (E : EP) (k : Nat) : va_E := if mB k = true then aB E (mlen k) (fun _ => 0) else aI E (mlen k) (fun _ => 0)
def cQ (E : EP) (a sz K : Nat) (H : Heap) : Prop := ∀ k, mA k = true → k < K → ce E (cAm a sz k) (cCell E k) H
/-- what a constructor may change -/
def cW (a : Nat) (H : Heap) : Nat → Prop := fun q => q = a ∨ H.size ≤ q
theorem mA_b {k : Nat} (h : mA k = true) : (4 ≤ k ∧ k ≤ 13) ∨ (18 ≤ k ∧ k ≤ 26) := by
  simp only [mA, Bool.or_eq_true, Bool.and_eq_true, decide_eq_true_eq] at h
  exact h
section CQ
variable {E : EP} {a sz K : Nat} {H H1 : Heap}
theorem cQ_0 : cQ E a sz 4 H := fun k h1 h2 => by have := mA_b h1; omega
theorem cQ_gap (h : cQ E a sz 14 H) : cQ E a sz 18 H := fun k h1 h2 => h k h1 (by have := mA_b h1; omega)
theorem cQ.new (h : cQ E a sz K H) (hK : mA K = true) (hz : cAm a sz K = H.size) (ha : a < H.size) (hle : ∀ k, mA k = true → k < K → cAm a sz k < H.size) (o : ∀ q : Nat, q < H.size → H1[q]? = H[q]?) (hc : ce E H.size (cCell E K) H1) : cQ E a sz (K + 1) H1 := by
  intro k h1 h2
  by_cases e : k = K
  · subst e
    rw [hz]
    exact hc
  · exact (h k h1 (by omega)).kept (o _ (hle k h1 (by omega)))
theorem cQ.put (h : cQ E a sz K H) (ha : a < sz) (o : ∀ q : Nat, q ≠ a → H1[q]? = H[q]?) : cQ E a sz K H1 := fun k h1 h2 => (h k h1 h2).kept (o _ (by
  have := mA_b h1
  unfold cAm
  rw [if_neg (by omega)]
  split <;> omega))
theorem cQ.MP (h : cQ E a sz 27 H) (ha : a < sz) (hN : eN E ≤ a) (hO : ce E a (.inr (2, mF (cAm a sz) (fun _ _ => 0))) H) : MP E (cAm a sz) (fun _ _ => 0) H := by
  have hv : ∀ k, mv k → k = 0 ∨ (mA k = true ∧ ((4 ≤ k ∧ k ≤ 13) ∨ (18 ≤ k ∧ k ≤ 26))) := fun k hk => hk.elim Or.inl (fun z => Or.inr ⟨z, mA_b z⟩)
  refine ⟨fun k hk => ?_, fun k k' hk hk' e => ?_, fun k hk => ?_⟩
  · rcases hv k hk with rfl | ⟨h1, h2⟩
    · exact hO
    · have := h k h1 (by omega)
      unfold mcell
      rw [if_neg (by omega)]
      exact this
  · have h1 := hv k hk
    have h2 := hv k' hk'
    unfold cAm at e
    repeat' split at e
    all_goals omega
  · have h1 := hv k hk
    unfold cAm
    repeat' split
    all_goals omega
theorem cW_sub : ∀ q, mW (cAm a H.size) q → cW a H q := by
  rintro q ⟨k, hv, rfl⟩
  rcases hv with rfl | hv
  · exact Or.inl rfl
  · right
    have h3 := mA_b hv
    unfold cAm
    rw [if_neg (by omega)]
    split <;> omega
theorem cAm_le : ∀ k, mA k = true → H.size ≤ cAm a H.size k := by
  intro k hv
  have h3 := mA_b hv
  unfold cAm
  rw [if_neg (by omega)]
  split <;> omega
theorem cAm_lt (hK : mA K = true) (hz : cAm a sz K = H.size) : ∀ k, mA k = true → k < K → cAm a sz k < H.size := by
  intro k hv h
  have h3 := mA_b hv
  have h4 := mA_b hK
  rw [← hz]
  unfold cAm
  repeat' split
  all_goals omega
theorem cAm_n (hK : mA K = true) (ha : a < sz) (hz : cAm a sz K = H.size) (z : H1.size = H.size + 1) (K' : Nat) (hK' : (¬ K = 13 ∧ K' = K + 1) ∨ (K = 13 ∧ K' = 18)) : cAm a sz K' = H1.size := by
  have h4 := mA_b hK
  rw [z, ← hz]
  unfold cAm
  repeat' split
  all_goals omega
end CQ
section MK
variable {p : Program} {l : Launch} {e : Env} {R : Room} {s : State} {m : MethodId} {args : Array Value} {below : List Frame} {meth : Method} {c : Code} {H : Heap} {locs : List Loc} {cells slots : Nat} {Q : State → Prop}
variable {cc : ByteArray} {nL : Nat} {own : String} {ret : Option FieldType} {pc : Nat} {ls : Array Slot} {rest : List Value} {E : EP}
/-- an array made and put into the reference's field K -/
theorem g_mkI (X : gX p s m meth c cc nL args own ret) (hk : kk E s H) {a K N index : Nat} {fs : List Value} (hS : va_S (cW a s.heap) s.heap H locs) (hN : eN E ≤ a) (ha : a < s.heap.size) (hin_ : meth.name = "<init>") (hown : RX3 = own) (hQ : cQ E a s.heap.size K H) (hO : ce E a (.inr (2, fs)) H) (hz : cAm a s.heap.size K = H.size) (hK : mA K = true) (hB : mB K = false) (hNK : mlen K = N) (hN1 : N ≤ 1000000) (hKN : K < 27) (hdc : (TX3 K).1 = RX3) (hfin : (TX3 K).2.2.2 = true) (hlink : Cond.fieldLink own index (TX3 K).1 (TX3 K).2.1 (TX3 K).2.2.1 ∈ lw_all)
    (hd : parseFieldDescriptor (TX3 K).2.2.1 = some (.array .int)) (hl : K < fs.length) (hcs : cells + 1 ≤ R.cells ∧ slots + N ≤ R.slots) (hd1 : decode cc pc = .ok (.newarray .int, 2)) (hd2 : decode cc (pc + 2) = .ok (.putfield index, 3)) (K' : Nat) (hK' : (¬ K = 13 ∧ K' = K + 1) ∨ (K = 13 ∧ K' = 18))
    (k : ∀ (H1 : Heap) (locs1 : List Loc), kk E s H1 → va_S (cW a s.heap) s.heap H1 locs1 → cQ E a s.heap.size K' H1 → ce E a (.inr (2, fs.set K (.ref (cAm a s.heap.size K)))) H1 → cAm a s.heap.size K' = H1.size → W p l e R s m args below meth c H1 locs1 (cells + 1) (slots + N) Q (F0 m (pc + 5) ls rest)) : W p l e R s m args below meth c H locs cells slots Q (F0 m pc ls (.int (iI (N : Int)) :: .ref a :: rest)) := by
  subst hown
  refine g_newI X hk hS (N := N) rfl hN1 hcs hd1 (fun q H1 hq hc hk1 hz1 ho hS1 => ?_)
  have hle := cAm_lt (a := a) (sz := s.heap.size) hK hz
  have ha2 : a < H.size := hO.lt
  have hc2 : ce E H.size (cCell E K) H1 := by unfold cCell; rw [if_neg (by rw [hB]; decide), hNK, ← hq]; exact hc
  have hQ1 := hQ.new hK hz ha2 hle ho hc2
  have hO1 := hO.kept (ho a ha2)
  have hq2 : q = cAm a s.heap.size K := hq.trans hz.symm
  subst hq2
  refine g_putF X hk1 hS1 ⟨Or.inl rfl, hN⟩ in_X3 tyX3 tyX3_ok nmX3 rfl hO1 K hKN hlink hfin hin_ hdc hd rfl rfl hl hd2 (fun H2 locs2 hO2 hk2 hz2 ho2 hS2 => ?_)
  have hQ2 := hQ1.put ha ho2
  refine k H2 locs2 hk2 hS2 ?_ hO2 (cAm_n hK ha hz (by omega) K' hK')
  rcases hK' with ⟨-, e⟩ | ⟨e1, e2⟩
  · rw [e]; exact hQ2
  · subst e1; subst e2; exact cQ_gap hQ2
theorem g_mkB (X : gX p s m meth c cc nL args own ret) (hk : kk E s H) {a K N index : Nat} {fs : List Value} (hS : va_S (cW a s.heap) s.heap H locs) (hN : eN E ≤ a) (ha : a < s.heap.size) (hin_ : meth.name = "<init>") (hown : RX3 = own) (hQ : cQ E a s.heap.size K H) (hO : ce E a (.inr (2, fs)) H) (hz : cAm a s.heap.size K = H.size) (hK : mA K = true) (hB : mB K = true) (hNK : mlen K = N) (hN1 : N ≤ 1000000) (hKN : K < 27) (hdc : (TX3 K).1 = RX3) (hfin : (TX3 K).2.2.2 = true) (hlink : Cond.fieldLink own index (TX3 K).1 (TX3 K).2.1 (TX3 K).2.2.1 ∈ lw_all)
    (hd : parseFieldDescriptor (TX3 K).2.2.1 = some (.array .boolean)) (hl : K < fs.length) (hcs : cells + 1 ≤ R.cells ∧ slots + N ≤ R.slots) (hd1 : decode cc pc = .ok (.newarray .boolean, 2)) (hd2 : decode cc (pc + 2) = .ok (.putfield index, 3)) (K' : Nat) (hK' : (¬ K = 13 ∧ K' = K + 1) ∨ (K = 13 ∧ K' = 18))
    (k : ∀ (H1 : Heap) (locs1 : List Loc), kk E s H1 → va_S (cW a s.heap) s.heap H1 locs1 → cQ E a s.heap.size K' H1 → ce E a (.inr (2, fs.set K (.ref (cAm a s.heap.size K)))) H1 → cAm a s.heap.size K' = H1.size → W p l e R s m args below meth c H1 locs1 (cells + 1) (slots + N) Q (F0 m (pc + 5) ls rest)) : W p l e R s m args below meth c H locs cells slots Q (F0 m pc ls (.int (iI (N : Int)) :: .ref a :: rest)) := by
  subst hown
  refine g_newB X hk hS (N := N) rfl hN1 hcs hd1 (fun q H1 hq hc hk1 hz1 ho hS1 => ?_)
  have hle := cAm_lt (a := a) (sz := s.heap.size) hK hz
  have ha2 : a < H.size := hO.lt
  have hc2 : ce E H.size (cCell E K) H1 := by unfold cCell; rw [if_pos hB, hNK, ← hq]; exact hc
  have hQ1 := hQ.new hK hz ha2 hle ho hc2
  have hO1 := hO.kept (ho a ha2)
  have hq2 : q = cAm a s.heap.size K := hq.trans hz.symm
  subst hq2
  refine g_putF X hk1 hS1 ⟨Or.inl rfl, hN⟩ in_X3 tyX3 tyX3_ok nmX3 rfl hO1 K hKN hlink hfin hin_ hdc hd rfl rfl hl hd2 (fun H2 locs2 hO2 hk2 hz2 ho2 hS2 => ?_)
  have hQ2 := hQ1.put ha ho2
  refine k H2 locs2 hk2 hS2 ?_ hO2 (cAm_n hK ha hz (by omega) K' hK')
  rcases hK' with ⟨-, e⟩ | ⟨e1, e2⟩
  · rw [e]; exact hQ2
  · subst e1; subst e2; exact cQ_gap hQ2
end MK
set_option maxHeartbeats 4000000 in
theorem m_init (l : Launch) (E : EP) (H : Heap) (a : Nat) (hO : ce E a (.inr (2, mNew)) H) (hN : eN E ≤ a) : gMv l E yX3_init cX3_init 1 1 19 382 H [.ref a] (cW a H) (fun H1 => ∃ am M1, MP E am M1 H1 ∧ am 0 = a ∧ (∀ k, mA k = true → H.size ≤ am k) ∧ ∀ f i, M1 f i = mBg 2 60 (fun _ _ => 0) f i) := by
  refine g_met (plainFor_of_name (by decide)) (Nat.le_of_ble_eq_true rfl) (fun P_ e_ s M_ bl mt_ c_ ls X hmeth_ hk hh hl => ?_)
  subst hh
  have X : gX P_ s M_ mt_ c_ cX3_init 1 ([.ref a] : List Value).toArray RX3 none := X
  have hl : lv_has ls 1 [(0, .ref a)] := hl
  have hS : va_S (cW a s.heap) s.heap s.heap [] := va_S.rf
  have hin_ : mt_.name = "<init>" := (name_of_methodNamed hmeth_.1 hmeth_.2).1
  have ha : a < s.heap.size := hO.lt
  have hQ : cQ E a s.heap.size 4 s.heap := cQ_0
  have hz : cAm a s.heap.size 4 = s.heap.size := rfl
  refine g_aload_n X dX3_init_0 rfl hl 0 rfl ?_
  refine g_oinit X q596 q64 q65 hl.1 (Nat.le_of_ble_eq_true rfl) dX3_init_1 ⟨Nat.le_of_ble_eq_true rfl, Nat.le_of_ble_eq_true rfl⟩ ?_
  refine g_aload_n X dX3_init_4 rfl hl 0 rfl ?_
  refine g_bipush X dX3_init_5 rfl ?_
  refine g_mkI (K := 4) (N := 80) X hk hS hN ha hin_ rfl hQ hO hz rfl rfl rfl (by decide) (by decide) rfl rfl q605 (by decide +kernel) (Nat.le_of_ble_eq_true rfl) ⟨Nat.le_of_ble_eq_true rfl, Nat.le_of_ble_eq_true rfl⟩ dX3_init_7 dX3_init_9 5 (by decide) (fun H1 locs hk hS hQ hO hz => ?_)
  have hO : ce E a (.inr (2, [.int (iI 0), .int (iI 0), .int (iI 0), .int (iI 0), .ref (cAm a s.heap.size 4), .null, .null, .null, .null, .null, .null, .null, .null, .null, .int (iI 0), .int (iI 0), .int (iI 0), .int (iI 0), .null, .null, .null, .null, .null, .null, .null, .null, .null])) H1 := hO
  refine g_aload_n X dX3_init_12 rfl hl 0 rfl ?_
  refine g_bipush X dX3_init_13 rfl ?_
  refine g_mkI (K := 5) (N := 20) X hk hS hN ha hin_ rfl hQ hO hz rfl rfl rfl (by decide) (by decide) rfl rfl q606 (by decide +kernel) (Nat.le_of_ble_eq_true rfl) ⟨Nat.le_of_ble_eq_true rfl, Nat.le_of_ble_eq_true rfl⟩ dX3_init_15 dX3_init_17 6 (by decide) (fun H1 locs hk hS hQ hO hz => ?_)
  have hO : ce E a (.inr (2, [.int (iI 0), .int (iI 0), .int (iI 0), .int (iI 0), .ref (cAm a s.heap.size 4), .ref (cAm a s.heap.size 5), .null, .null, .null, .null, .null, .null, .null, .null, .int (iI 0), .int (iI 0), .int (iI 0), .int (iI 0), .null, .null, .null, .null, .null, .null, .null, .null, .null])) H1 := hO
  refine g_aload_n X dX3_init_20 rfl hl 0 rfl ?_
  refine g_iconst X dX3_init_21 ?_
  refine g_mkI (K := 6) (N := 5) X hk hS hN ha hin_ rfl hQ hO hz rfl rfl rfl (by decide) (by decide) rfl rfl q607 (by decide +kernel) (Nat.le_of_ble_eq_true rfl) ⟨Nat.le_of_ble_eq_true rfl, Nat.le_of_ble_eq_true rfl⟩ dX3_init_22 dX3_init_24 7 (by decide) (fun H1 locs hk hS hQ hO hz => ?_)
  have hO : ce E a (.inr (2, [.int (iI 0), .int (iI 0), .int (iI 0), .int (iI 0), .ref (cAm a s.heap.size 4), .ref (cAm a s.heap.size 5), .ref (cAm a s.heap.size 6), .null, .null, .null, .null, .null, .null, .null, .int (iI 0), .int (iI 0), .int (iI 0), .int (iI 0), .null, .null, .null, .null, .null, .null, .null, .null, .null])) H1 := hO
  refine g_aload_n X dX3_init_27 rfl hl 0 rfl ?_
  refine g_bipush X dX3_init_28 rfl ?_
  refine g_mkI (K := 7) (N := 20) X hk hS hN ha hin_ rfl hQ hO hz rfl rfl rfl (by decide) (by decide) rfl rfl q608 (by decide +kernel) (Nat.le_of_ble_eq_true rfl) ⟨Nat.le_of_ble_eq_true rfl, Nat.le_of_ble_eq_true rfl⟩ dX3_init_30 dX3_init_32 8 (by decide) (fun H1 locs hk hS hQ hO hz => ?_)
  have hO : ce E a (.inr (2, [.int (iI 0), .int (iI 0), .int (iI 0), .int (iI 0), .ref (cAm a s.heap.size 4), .ref (cAm a s.heap.size 5), .ref (cAm a s.heap.size 6), .ref (cAm a s.heap.size 7), .null, .null, .null, .null, .null, .null, .int (iI 0), .int (iI 0), .int (iI 0), .int (iI 0), .null, .null, .null, .null, .null, .null, .null, .null, .null])) H1 := hO
  refine g_aload_n X dX3_init_35 rfl hl 0 rfl ?_
  refine g_iconst X dX3_init_36 ?_
  refine g_mkI (K := 8) (N := 5) X hk hS hN ha hin_ rfl hQ hO hz rfl rfl rfl (by decide) (by decide) rfl rfl q609 (by decide +kernel) (Nat.le_of_ble_eq_true rfl) ⟨Nat.le_of_ble_eq_true rfl, Nat.le_of_ble_eq_true rfl⟩ dX3_init_37 dX3_init_39 9 (by decide) (fun H1 locs hk hS hQ hO hz => ?_)
  have hO : ce E a (.inr (2, [.int (iI 0), .int (iI 0), .int (iI 0), .int (iI 0), .ref (cAm a s.heap.size 4), .ref (cAm a s.heap.size 5), .ref (cAm a s.heap.size 6), .ref (cAm a s.heap.size 7), .ref (cAm a s.heap.size 8), .null, .null, .null, .null, .null, .int (iI 0), .int (iI 0), .int (iI 0), .int (iI 0), .null, .null, .null, .null, .null, .null, .null, .null, .null])) H1 := hO
  refine g_aload_n X dX3_init_42 rfl hl 0 rfl ?_
  refine g_iconst X dX3_init_43 ?_
  refine g_mkI (K := 9) (N := 4) X hk hS hN ha hin_ rfl hQ hO hz rfl rfl rfl (by decide) (by decide) rfl rfl q610 (by decide +kernel) (Nat.le_of_ble_eq_true rfl) ⟨Nat.le_of_ble_eq_true rfl, Nat.le_of_ble_eq_true rfl⟩ dX3_init_44 dX3_init_46 10 (by decide) (fun H1 locs hk hS hQ hO hz => ?_)
  have hO : ce E a (.inr (2, [.int (iI 0), .int (iI 0), .int (iI 0), .int (iI 0), .ref (cAm a s.heap.size 4), .ref (cAm a s.heap.size 5), .ref (cAm a s.heap.size 6), .ref (cAm a s.heap.size 7), .ref (cAm a s.heap.size 8), .ref (cAm a s.heap.size 9), .null, .null, .null, .null, .int (iI 0), .int (iI 0), .int (iI 0), .int (iI 0), .null, .null, .null, .null, .null, .null, .null, .null, .null])) H1 := hO
  refine g_aload_n X dX3_init_49 rfl hl 0 rfl ?_
  refine g_iconst X dX3_init_50 ?_
  refine g_mkI (K := 10) (N := 4) X hk hS hN ha hin_ rfl hQ hO hz rfl rfl rfl (by decide) (by decide) rfl rfl q611 (by decide +kernel) (Nat.le_of_ble_eq_true rfl) ⟨Nat.le_of_ble_eq_true rfl, Nat.le_of_ble_eq_true rfl⟩ dX3_init_51 dX3_init_53 11 (by decide) (fun H1 locs hk hS hQ hO hz => ?_)
  have hO : ce E a (.inr (2, [.int (iI 0), .int (iI 0), .int (iI 0), .int (iI 0), .ref (cAm a s.heap.size 4), .ref (cAm a s.heap.size 5), .ref (cAm a s.heap.size 6), .ref (cAm a s.heap.size 7), .ref (cAm a s.heap.size 8), .ref (cAm a s.heap.size 9), .ref (cAm a s.heap.size 10), .null, .null, .null, .int (iI 0), .int (iI 0), .int (iI 0), .int (iI 0), .null, .null, .null, .null, .null, .null, .null, .null, .null])) H1 := hO
  refine g_aload_n X dX3_init_56 rfl hl 0 rfl ?_
  refine g_bipush X dX3_init_57 rfl ?_
  refine g_mkI (K := 11) (N := 20) X hk hS hN ha hin_ rfl hQ hO hz rfl rfl rfl (by decide) (by decide) rfl rfl q612 (by decide +kernel) (Nat.le_of_ble_eq_true rfl) ⟨Nat.le_of_ble_eq_true rfl, Nat.le_of_ble_eq_true rfl⟩ dX3_init_59 dX3_init_61 12 (by decide) (fun H1 locs hk hS hQ hO hz => ?_)
  have hO : ce E a (.inr (2, [.int (iI 0), .int (iI 0), .int (iI 0), .int (iI 0), .ref (cAm a s.heap.size 4), .ref (cAm a s.heap.size 5), .ref (cAm a s.heap.size 6), .ref (cAm a s.heap.size 7), .ref (cAm a s.heap.size 8), .ref (cAm a s.heap.size 9), .ref (cAm a s.heap.size 10), .ref (cAm a s.heap.size 11), .null, .null, .int (iI 0), .int (iI 0), .int (iI 0), .int (iI 0), .null, .null, .null, .null, .null, .null, .null, .null, .null])) H1 := hO
  refine g_aload_n X dX3_init_64 rfl hl 0 rfl ?_
  refine g_bipush X dX3_init_65 rfl ?_
  refine g_mkI (K := 12) (N := 20) X hk hS hN ha hin_ rfl hQ hO hz rfl rfl rfl (by decide) (by decide) rfl rfl q613 (by decide +kernel) (Nat.le_of_ble_eq_true rfl) ⟨Nat.le_of_ble_eq_true rfl, Nat.le_of_ble_eq_true rfl⟩ dX3_init_67 dX3_init_69 13 (by decide) (fun H1 locs hk hS hQ hO hz => ?_)
  have hO : ce E a (.inr (2, [.int (iI 0), .int (iI 0), .int (iI 0), .int (iI 0), .ref (cAm a s.heap.size 4), .ref (cAm a s.heap.size 5), .ref (cAm a s.heap.size 6), .ref (cAm a s.heap.size 7), .ref (cAm a s.heap.size 8), .ref (cAm a s.heap.size 9), .ref (cAm a s.heap.size 10), .ref (cAm a s.heap.size 11), .ref (cAm a s.heap.size 12), .null, .int (iI 0), .int (iI 0), .int (iI 0), .int (iI 0), .null, .null, .null, .null, .null, .null, .null, .null, .null])) H1 := hO
  refine g_aload_n X dX3_init_72 rfl hl 0 rfl ?_
  refine g_iconst X dX3_init_73 ?_
  refine g_mkB (K := 13) (N := 5) X hk hS hN ha hin_ rfl hQ hO hz rfl rfl rfl (by decide) (by decide) rfl rfl q614 (by decide +kernel) (Nat.le_of_ble_eq_true rfl) ⟨Nat.le_of_ble_eq_true rfl, Nat.le_of_ble_eq_true rfl⟩ dX3_init_74 dX3_init_76 18 (by decide) (fun H1 locs hk hS hQ hO hz => ?_)
  have hO : ce E a (.inr (2, [.int (iI 0), .int (iI 0), .int (iI 0), .int (iI 0), .ref (cAm a s.heap.size 4), .ref (cAm a s.heap.size 5), .ref (cAm a s.heap.size 6), .ref (cAm a s.heap.size 7), .ref (cAm a s.heap.size 8), .ref (cAm a s.heap.size 9), .ref (cAm a s.heap.size 10), .ref (cAm a s.heap.size 11), .ref (cAm a s.heap.size 12), .ref (cAm a s.heap.size 13), .int (iI 0), .int (iI 0), .int (iI 0), .int (iI 0), .null, .null, .null, .null, .null, .null, .null, .null, .null])) H1 := hO
  refine g_aload_n X dX3_init_79 rfl hl 0 rfl ?_
  refine g_iconst X dX3_init_80 ?_
  refine g_mkI (K := 18) (N := 5) X hk hS hN ha hin_ rfl hQ hO hz rfl rfl rfl (by decide) (by decide) rfl rfl q619 (by decide +kernel) (Nat.le_of_ble_eq_true rfl) ⟨Nat.le_of_ble_eq_true rfl, Nat.le_of_ble_eq_true rfl⟩ dX3_init_81 dX3_init_83 19 (by decide) (fun H1 locs hk hS hQ hO hz => ?_)
  have hO : ce E a (.inr (2, [.int (iI 0), .int (iI 0), .int (iI 0), .int (iI 0), .ref (cAm a s.heap.size 4), .ref (cAm a s.heap.size 5), .ref (cAm a s.heap.size 6), .ref (cAm a s.heap.size 7), .ref (cAm a s.heap.size 8), .ref (cAm a s.heap.size 9), .ref (cAm a s.heap.size 10), .ref (cAm a s.heap.size 11), .ref (cAm a s.heap.size 12), .ref (cAm a s.heap.size 13), .int (iI 0), .int (iI 0), .int (iI 0), .int (iI 0), .ref (cAm a s.heap.size 18), .null, .null, .null, .null, .null, .null, .null, .null])) H1 := hO
  refine g_aload_n X dX3_init_86 rfl hl 0 rfl ?_
  refine g_iconst X dX3_init_87 ?_
  refine g_mkI (K := 19) (N := 5) X hk hS hN ha hin_ rfl hQ hO hz rfl rfl rfl (by decide) (by decide) rfl rfl q620 (by decide +kernel) (Nat.le_of_ble_eq_true rfl) ⟨Nat.le_of_ble_eq_true rfl, Nat.le_of_ble_eq_true rfl⟩ dX3_init_88 dX3_init_90 20 (by decide) (fun H1 locs hk hS hQ hO hz => ?_)
  have hO : ce E a (.inr (2, [.int (iI 0), .int (iI 0), .int (iI 0), .int (iI 0), .ref (cAm a s.heap.size 4), .ref (cAm a s.heap.size 5), .ref (cAm a s.heap.size 6), .ref (cAm a s.heap.size 7), .ref (cAm a s.heap.size 8), .ref (cAm a s.heap.size 9), .ref (cAm a s.heap.size 10), .ref (cAm a s.heap.size 11), .ref (cAm a s.heap.size 12), .ref (cAm a s.heap.size 13), .int (iI 0), .int (iI 0), .int (iI 0), .int (iI 0), .ref (cAm a s.heap.size 18), .ref (cAm a s.heap.size 19), .null, .null, .null, .null, .null, .null, .null])) H1 := hO
  refine g_aload_n X dX3_init_93 rfl hl 0 rfl ?_
  refine g_iconst X dX3_init_94 ?_
  refine g_mkI (K := 20) (N := 4) X hk hS hN ha hin_ rfl hQ hO hz rfl rfl rfl (by decide) (by decide) rfl rfl q621 (by decide +kernel) (Nat.le_of_ble_eq_true rfl) ⟨Nat.le_of_ble_eq_true rfl, Nat.le_of_ble_eq_true rfl⟩ dX3_init_95 dX3_init_97 21 (by decide) (fun H1 locs hk hS hQ hO hz => ?_)
  have hO : ce E a (.inr (2, [.int (iI 0), .int (iI 0), .int (iI 0), .int (iI 0), .ref (cAm a s.heap.size 4), .ref (cAm a s.heap.size 5), .ref (cAm a s.heap.size 6), .ref (cAm a s.heap.size 7), .ref (cAm a s.heap.size 8), .ref (cAm a s.heap.size 9), .ref (cAm a s.heap.size 10), .ref (cAm a s.heap.size 11), .ref (cAm a s.heap.size 12), .ref (cAm a s.heap.size 13), .int (iI 0), .int (iI 0), .int (iI 0), .int (iI 0), .ref (cAm a s.heap.size 18), .ref (cAm a s.heap.size 19), .ref (cAm a s.heap.size 20), .null, .null, .null, .null, .null, .null])) H1 := hO
  refine g_aload_n X dX3_init_100 rfl hl 0 rfl ?_
  refine g_sipush X dX3_init_101 rfl ?_
  refine g_mkI (K := 21) (N := 160) X hk hS hN ha hin_ rfl hQ hO hz rfl rfl rfl (by decide) (by decide) rfl rfl q622 (by decide +kernel) (Nat.le_of_ble_eq_true rfl) ⟨Nat.le_of_ble_eq_true rfl, Nat.le_of_ble_eq_true rfl⟩ dX3_init_104 dX3_init_106 22 (by decide) (fun H1 locs hk hS hQ hO hz => ?_)
  have hO : ce E a (.inr (2, [.int (iI 0), .int (iI 0), .int (iI 0), .int (iI 0), .ref (cAm a s.heap.size 4), .ref (cAm a s.heap.size 5), .ref (cAm a s.heap.size 6), .ref (cAm a s.heap.size 7), .ref (cAm a s.heap.size 8), .ref (cAm a s.heap.size 9), .ref (cAm a s.heap.size 10), .ref (cAm a s.heap.size 11), .ref (cAm a s.heap.size 12), .ref (cAm a s.heap.size 13), .int (iI 0), .int (iI 0), .int (iI 0), .int (iI 0), .ref (cAm a s.heap.size 18), .ref (cAm a s.heap.size 19), .ref (cAm a s.heap.size 20), .ref (cAm a s.heap.size 21), .null, .null, .null, .null, .null])) H1 := hO
  refine g_aload_n X dX3_init_109 rfl hl 0 rfl ?_
  refine g_iconst X dX3_init_110 ?_
  refine g_mkB (K := 22) (N := 5) X hk hS hN ha hin_ rfl hQ hO hz rfl rfl rfl (by decide) (by decide) rfl rfl q623 (by decide +kernel) (Nat.le_of_ble_eq_true rfl) ⟨Nat.le_of_ble_eq_true rfl, Nat.le_of_ble_eq_true rfl⟩ dX3_init_111 dX3_init_113 23 (by decide) (fun H1 locs hk hS hQ hO hz => ?_)
  have hO : ce E a (.inr (2, [.int (iI 0), .int (iI 0), .int (iI 0), .int (iI 0), .ref (cAm a s.heap.size 4), .ref (cAm a s.heap.size 5), .ref (cAm a s.heap.size 6), .ref (cAm a s.heap.size 7), .ref (cAm a s.heap.size 8), .ref (cAm a s.heap.size 9), .ref (cAm a s.heap.size 10), .ref (cAm a s.heap.size 11), .ref (cAm a s.heap.size 12), .ref (cAm a s.heap.size 13), .int (iI 0), .int (iI 0), .int (iI 0), .int (iI 0), .ref (cAm a s.heap.size 18), .ref (cAm a s.heap.size 19), .ref (cAm a s.heap.size 20), .ref (cAm a s.heap.size 21), .ref (cAm a s.heap.size 22), .null, .null, .null, .null])) H1 := hO
  refine g_aload_n X dX3_init_116 rfl hl 0 rfl ?_
  refine g_iconst X dX3_init_117 ?_
  refine g_mkI (K := 23) (N := 5) X hk hS hN ha hin_ rfl hQ hO hz rfl rfl rfl (by decide) (by decide) rfl rfl q624 (by decide +kernel) (Nat.le_of_ble_eq_true rfl) ⟨Nat.le_of_ble_eq_true rfl, Nat.le_of_ble_eq_true rfl⟩ dX3_init_118 dX3_init_120 24 (by decide) (fun H1 locs hk hS hQ hO hz => ?_)
  have hO : ce E a (.inr (2, [.int (iI 0), .int (iI 0), .int (iI 0), .int (iI 0), .ref (cAm a s.heap.size 4), .ref (cAm a s.heap.size 5), .ref (cAm a s.heap.size 6), .ref (cAm a s.heap.size 7), .ref (cAm a s.heap.size 8), .ref (cAm a s.heap.size 9), .ref (cAm a s.heap.size 10), .ref (cAm a s.heap.size 11), .ref (cAm a s.heap.size 12), .ref (cAm a s.heap.size 13), .int (iI 0), .int (iI 0), .int (iI 0), .int (iI 0), .ref (cAm a s.heap.size 18), .ref (cAm a s.heap.size 19), .ref (cAm a s.heap.size 20), .ref (cAm a s.heap.size 21), .ref (cAm a s.heap.size 22), .ref (cAm a s.heap.size 23), .null, .null, .null])) H1 := hO
  refine g_aload_n X dX3_init_123 rfl hl 0 rfl ?_
  refine g_iconst X dX3_init_124 ?_
  refine g_mkI (K := 24) (N := 5) X hk hS hN ha hin_ rfl hQ hO hz rfl rfl rfl (by decide) (by decide) rfl rfl q625 (by decide +kernel) (Nat.le_of_ble_eq_true rfl) ⟨Nat.le_of_ble_eq_true rfl, Nat.le_of_ble_eq_true rfl⟩ dX3_init_125 dX3_init_127 25 (by decide) (fun H1 locs hk hS hQ hO hz => ?_)
  have hO : ce E a (.inr (2, [.int (iI 0), .int (iI 0), .int (iI 0), .int (iI 0), .ref (cAm a s.heap.size 4), .ref (cAm a s.heap.size 5), .ref (cAm a s.heap.size 6), .ref (cAm a s.heap.size 7), .ref (cAm a s.heap.size 8), .ref (cAm a s.heap.size 9), .ref (cAm a s.heap.size 10), .ref (cAm a s.heap.size 11), .ref (cAm a s.heap.size 12), .ref (cAm a s.heap.size 13), .int (iI 0), .int (iI 0), .int (iI 0), .int (iI 0), .ref (cAm a s.heap.size 18), .ref (cAm a s.heap.size 19), .ref (cAm a s.heap.size 20), .ref (cAm a s.heap.size 21), .ref (cAm a s.heap.size 22), .ref (cAm a s.heap.size 23), .ref (cAm a s.heap.size 24), .null, .null])) H1 := hO
  refine g_aload_n X dX3_init_130 rfl hl 0 rfl ?_
  refine g_iconst X dX3_init_131 ?_
  refine g_mkI (K := 25) (N := 5) X hk hS hN ha hin_ rfl hQ hO hz rfl rfl rfl (by decide) (by decide) rfl rfl q626 (by decide +kernel) (Nat.le_of_ble_eq_true rfl) ⟨Nat.le_of_ble_eq_true rfl, Nat.le_of_ble_eq_true rfl⟩ dX3_init_132 dX3_init_134 26 (by decide) (fun H1 locs hk hS hQ hO hz => ?_)
  have hO : ce E a (.inr (2, [.int (iI 0), .int (iI 0), .int (iI 0), .int (iI 0), .ref (cAm a s.heap.size 4), .ref (cAm a s.heap.size 5), .ref (cAm a s.heap.size 6), .ref (cAm a s.heap.size 7), .ref (cAm a s.heap.size 8), .ref (cAm a s.heap.size 9), .ref (cAm a s.heap.size 10), .ref (cAm a s.heap.size 11), .ref (cAm a s.heap.size 12), .ref (cAm a s.heap.size 13), .int (iI 0), .int (iI 0), .int (iI 0), .int (iI 0), .ref (cAm a s.heap.size 18), .ref (cAm a s.heap.size 19), .ref (cAm a s.heap.size 20), .ref (cAm a s.heap.size 21), .ref (cAm a s.heap.size 22), .ref (cAm a s.heap.size 23), .ref (cAm a s.heap.size 24), .ref (cAm a s.heap.size 25), .null])) H1 := hO
  refine g_aload_n X dX3_init_137 rfl hl 0 rfl ?_
  refine g_iconst X dX3_init_138 ?_
  refine g_mkI (K := 26) (N := 5) X hk hS hN ha hin_ rfl hQ hO hz rfl rfl rfl (by decide) (by decide) rfl rfl q627 (by decide +kernel) (Nat.le_of_ble_eq_true rfl) ⟨Nat.le_of_ble_eq_true rfl, Nat.le_of_ble_eq_true rfl⟩ dX3_init_139 dX3_init_141 27 (by decide) (fun H1 locs hk hS hQ hO hz => ?_)
  have hO : ce E a (.inr (2, [.int (iI 0), .int (iI 0), .int (iI 0), .int (iI 0), .ref (cAm a s.heap.size 4), .ref (cAm a s.heap.size 5), .ref (cAm a s.heap.size 6), .ref (cAm a s.heap.size 7), .ref (cAm a s.heap.size 8), .ref (cAm a s.heap.size 9), .ref (cAm a s.heap.size 10), .ref (cAm a s.heap.size 11), .ref (cAm a s.heap.size 12), .ref (cAm a s.heap.size 13), .int (iI 0), .int (iI 0), .int (iI 0), .int (iI 0), .ref (cAm a s.heap.size 18), .ref (cAm a s.heap.size 19), .ref (cAm a s.heap.size 20), .ref (cAm a s.heap.size 21), .ref (cAm a s.heap.size 22), .ref (cAm a s.heap.size 23), .ref (cAm a s.heap.size 24), .ref (cAm a s.heap.size 25), .ref (cAm a s.heap.size 26)])) H1 := hO
  refine g_aload_n X dX3_init_144 rfl hl 0 rfl ?_
  refine g_iconst X dX3_init_145 ?_
  refine g_bipush X dX3_init_146 rfl ?_
  have hM : MP E (cAm a s.heap.size) (fun _ _ => 0) H1 := hQ.MP ha hN hO
  refine g_callv (g_runV X hk (As := [.int (iI 2), .int (iI 60)]) (rest := []) rfl hO (m_begins l E (cAm a s.heap.size) (fun _ _ => 0) H1 hM 2 60) 2 (lw_V q597 q599 qs14 q48 q600) (by decide +kernel) ⟨⟨Nat.le_of_ble_eq_true rfl, Nat.le_of_ble_eq_true rfl⟩, Nat.le_of_ble_eq_true rfl, Nat.le_of_ble_eq_true rfl⟩ rfl rfl hl.1 (Nat.le_of_ble_eq_true rfl) dX3_init_148) hk hS cW_sub (MP.N hM) (fun H2 locs hP_ hk hz_ ho_ hS => ?_)
  obtain ⟨M1, hM, eM1⟩ := hP_
  exact g_vret X hS ⟨cAm a s.heap.size, M1, hM, rfl, cAm_le, eM1⟩ ⟨Nat.le_of_ble_eq_true rfl, Nat.le_of_ble_eq_true rfl⟩ dX3_init_151
