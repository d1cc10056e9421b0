/-! throws -/
/-- a method that throws Ex here, and changes no old cell -/
def gXC (Ex : String) : String → State → State → Prop := fun E' st t => E' = Ex ∧ va_F (fun q => st.heap.size ≤ q) st t
abbrev gT (l : Launch) (E : EP) (y : MethodName) (cc : ByteArray) (nL : Nat) (rt : Option FieldType) (d mc ms : Nat) (H : Heap) (As : List Value) (Ex : String) : Prop :=
  vx_Met l y (ws_ y cc nL rt) (gR d mc ms) (gPc E H As) (fun _ _ _ _ => False) (gXC Ex) mc ms (nA H)
abbrev xNm : List String := ["java/lang/RuntimeException", "java/lang/Exception"]
def xDe : List Cond := [.declares ⟨"java/lang/RuntimeException", "<init>", "()V"⟩, .declares ⟨"java/lang/Exception", "<init>", "()V"⟩, .declares ⟨"java/lang/Throwable", "<init>", "()V"⟩]
theorem xDe_h {args : Array Value} {s : State} (h : evs s) : ∀ w ∈ xDe, w.before args s = true := by
  intro w hw
  simp only [xDe, List.mem_cons, List.not_mem_nil, or_false] at hw
  rcases hw with rfl | rfl | rfl
  · exact va_Nw.use rfl (h.2.2.2.1 _ (List.mem_of_getElem? (i := 0) rfl))
  · exact va_Nw.use rfl (h.2.2.2.1 _ (List.mem_of_getElem? (i := 1) rfl))
  · exact va_Nw.use rfl (h.2.2.2.1 _ (List.mem_of_getElem? (i := 2) rfl))
theorem xat_Index {args : Array Value} {s : State} (ht : ∀ w ∈ lw_all, w.before args s = true) (h : evs s) : ∀ w ∈ vx_at0 "Greenwave" 3 "java/lang/IndexOutOfBoundsException" xNm, w.before args s = true :=
  vx_hat (B := .castable "java/lang/IndexOutOfBoundsException" "java/lang/IndexOutOfBoundsException" :: xDe) (fun w hw => ht w ((by decide +kernel : ∀ w ∈ (vx_at0 "Greenwave" 3 "java/lang/IndexOutOfBoundsException" xNm).filter goodWord, w ∈ lw_all) w hw)) (by decide +kernel) (vx_c (va_Nw.use rfl (h.2.2.1 _ (List.mem_of_getElem? (i := 2) rfl))) (xDe_h h))
theorem xat_Argument {args : Array Value} {s : State} (ht : ∀ w ∈ lw_all, w.before args s = true) (h : evs s) : ∀ w ∈ vx_at0 "Greenwave" 9 "java/lang/IllegalArgumentException" xNm, w.before args s = true :=
  vx_hat (B := .castable "java/lang/IllegalArgumentException" "java/lang/IllegalArgumentException" :: xDe) (fun w hw => ht w ((by decide +kernel : ∀ w ∈ (vx_at0 "Greenwave" 9 "java/lang/IllegalArgumentException" xNm).filter goodWord, w ∈ lw_all) w hw)) (by decide +kernel) (vx_c (va_Nw.use rfl (h.2.2.1 _ (List.mem_of_getElem? (i := 1) rfl))) (xDe_h h))
theorem xat_State {args : Array Value} {s : State} (ht : ∀ w ∈ lw_all, w.before args s = true) (h : evs s) : ∀ w ∈ vx_at0 "Greenwave" 12 "java/lang/IllegalStateException" xNm, w.before args s = true :=
  vx_hat (B := .castable "java/lang/IllegalStateException" "java/lang/IllegalStateException" :: xDe) (fun w hw => ht w ((by decide +kernel : ∀ w ∈ (vx_at0 "Greenwave" 12 "java/lang/IllegalStateException" xNm).filter goodWord, w ∈ lw_all) w hw)) (by decide +kernel) (vx_c (va_Nw.use rfl (h.2.2.1 _ (List.mem_of_getElem? (i := 3) rfl))) (xDe_h h))
set_option maxHeartbeats 4000000 in
theorem p_requireIndex_t (l : Launch) (E : EP) (hst : l.stackTraces = false) (H : Heap) : gT l E yX1_requireIndex cX1_requireIndex 1 none 6 1 6 H [.int (iI 0)] "java/lang/IndexOutOfBoundsException" := by
  refine g_metX (by decide) (Nat.le_of_ble_eq_true rfl) (fun P_ e_ s M_ bl mt_ c_ ls X hno_ hk hh hl => ?_)
  subst hh
  have X : gX P_ s M_ mt_ c_ cX1_requireIndex 1 ([.int (iI 0)] : List Value).toArray RX1 none := X
  have hl : lv_has ls 1 [(0, .int (iI 0))] := hl
  have hS : va_S (nA s.heap) s.heap s.heap [] := va_S.rf
  refine g_iload_n X dX1_requireIndex_0 rfl hl 0 rfl ?_
  refine g_if_ne X dX1_requireIndex_1 (tgt := 12) (by decide) (by omega) (fun c1 => ?_) (fun c1 => ?_)
  · exact absurd rfl c1
  refine vx_throw0 (names := xNm) X.1.1 X.1.2.1 hst X.1.2.2.2.1 (by decide +kernel) (by decide +kernel) (X.1.2.2.2.2 _ q308) (X.1.2.2.2.2 _ q53) (xat_Index X.1.2.2.2.2 hk.ev) (by decide +kernel) (hk.2.2.2.2.1.narrow (fun q h => Nat.le_trans hk.N h)) (hk.2.2.2.2.2.1.narrow (fun q h => Nat.le_trans hk.N h)) hS (hl.1.trans X.1.2.2.1.symm) dX1_requireIndex_4 dX1_requireIndex_7 dX1_requireIndex_8 dX1_requireIndex_11 (fun x hx => (hno_ x hx).elim) (by decide) (by decide) (Nat.le_refl _) (Nat.le_refl _) X.2.2 (fun t ha hz hq => ⟨rfl, hz, fun q h1 _ => hq q h1⟩) (fun z hz => nomatch hz) (Nat.le_refl _) (Nat.le_refl _)
set_option maxHeartbeats 4000000 in
theorem p_requireIndex (l : Launch) (E : EP) (H : Heap) : gMv l E yX1_requireIndex cX1_requireIndex 1 0 0 0 H [.int (iI 1)] (fun _ => False) (fun H1 => H1 = H) := by
  refine g_met (plainFor_of_name (by decide)) (Nat.le_of_ble_eq_true rfl) (fun P_ e_ s M_ bl mt_ c_ ls X hmeth_ hk hh hl => ?_)
  subst hh
  have X : gX P_ s M_ mt_ c_ cX1_requireIndex 1 ([.int (iI 1)] : List Value).toArray RX1 none := X
  have hl : lv_has ls 1 [(0, .int (iI 1))] := hl
  have hS : va_S (fun _ => False) s.heap s.heap [] := va_S.rf
  refine g_iload_n X dX1_requireIndex_0 rfl hl 0 rfl ?_
  refine g_if_ne X dX1_requireIndex_1 (tgt := 12) (by decide) (by omega) (fun c1 => ?_) (fun c1 => ?_)
  · exact g_vret X hS rfl ⟨Nat.le_refl _, Nat.le_refl _⟩ dX1_requireIndex_12
  · exact absurd c1 (by decide)
set_option maxHeartbeats 4000000 in
theorem p_requireArgument_t (l : Launch) (E : EP) (hst : l.stackTraces = false) (H : Heap) : gT l E yX1_requireArgument cX1_requireArgument 1 none 6 1 6 H [.int (iI 0)] "java/lang/IllegalArgumentException" := by
  refine g_metX (by decide) (Nat.le_of_ble_eq_true rfl) (fun P_ e_ s M_ bl mt_ c_ ls X hno_ hk hh hl => ?_)
  subst hh
  have X : gX P_ s M_ mt_ c_ cX1_requireArgument 1 ([.int (iI 0)] : List Value).toArray RX1 none := X
  have hl : lv_has ls 1 [(0, .int (iI 0))] := hl
  have hS : va_S (nA s.heap) s.heap s.heap [] := va_S.rf
  refine g_iload_n X dX1_requireArgument_0 rfl hl 0 rfl ?_
  refine g_if_ne X dX1_requireArgument_1 (tgt := 12) (by decide) (by omega) (fun c1 => ?_) (fun c1 => ?_)
  · exact absurd rfl c1
  refine vx_throw0 (names := xNm) X.1.1 X.1.2.1 hst X.1.2.2.2.1 (by decide +kernel) (by decide +kernel) (X.1.2.2.2.2 _ q191) (X.1.2.2.2.2 _ q52) (xat_Argument X.1.2.2.2.2 hk.ev) (by decide +kernel) (hk.2.2.2.2.1.narrow (fun q h => Nat.le_trans hk.N h)) (hk.2.2.2.2.2.1.narrow (fun q h => Nat.le_trans hk.N h)) hS (hl.1.trans X.1.2.2.1.symm) dX1_requireArgument_4 dX1_requireArgument_7 dX1_requireArgument_8 dX1_requireArgument_11 (fun x hx => (hno_ x hx).elim) (by decide) (by decide) (Nat.le_refl _) (Nat.le_refl _) X.2.2 (fun t ha hz hq => ⟨rfl, hz, fun q h1 _ => hq q h1⟩) (fun z hz => nomatch hz) (Nat.le_refl _) (Nat.le_refl _)
set_option maxHeartbeats 4000000 in
theorem p_requireArgument (l : Launch) (E : EP) (H : Heap) : gMv l E yX1_requireArgument cX1_requireArgument 1 0 0 0 H [.int (iI 1)] (fun _ => False) (fun H1 => H1 = H) := by
  refine g_met (plainFor_of_name (by decide)) (Nat.le_of_ble_eq_true rfl) (fun P_ e_ s M_ bl mt_ c_ ls X hmeth_ hk hh hl => ?_)
  subst hh
  have X : gX P_ s M_ mt_ c_ cX1_requireArgument 1 ([.int (iI 1)] : List Value).toArray RX1 none := X
  have hl : lv_has ls 1 [(0, .int (iI 1))] := hl
  have hS : va_S (fun _ => False) s.heap s.heap [] := va_S.rf
  refine g_iload_n X dX1_requireArgument_0 rfl hl 0 rfl ?_
  refine g_if_ne X dX1_requireArgument_1 (tgt := 12) (by decide) (by omega) (fun c1 => ?_) (fun c1 => ?_)
  · exact g_vret X hS rfl ⟨Nat.le_refl _, Nat.le_refl _⟩ dX1_requireArgument_12
  · exact absurd c1 (by decide)
set_option maxHeartbeats 4000000 in
theorem p_requireState_t (l : Launch) (E : EP) (hst : l.stackTraces = false) (H : Heap) : gT l E yX1_requireState cX1_requireState 1 none 6 1 6 H [.int (iI 0)] "java/lang/IllegalStateException" := by
  refine g_metX (by decide) (Nat.le_of_ble_eq_true rfl) (fun P_ e_ s M_ bl mt_ c_ ls X hno_ hk hh hl => ?_)
  subst hh
  have X : gX P_ s M_ mt_ c_ cX1_requireState 1 ([.int (iI 0)] : List Value).toArray RX1 none := X
  have hl : lv_has ls 1 [(0, .int (iI 0))] := hl
  have hS : va_S (nA s.heap) s.heap s.heap [] := va_S.rf
  refine g_iload_n X dX1_requireState_0 rfl hl 0 rfl ?_
  refine g_if_ne X dX1_requireState_1 (tgt := 12) (by decide) (by omega) (fun c1 => ?_) (fun c1 => ?_)
  · exact absurd rfl c1
  refine vx_throw0 (names := xNm) X.1.1 X.1.2.1 hst X.1.2.2.2.1 (by decide +kernel) (by decide +kernel) (X.1.2.2.2.2 _ q329) (X.1.2.2.2.2 _ q56) (xat_State X.1.2.2.2.2 hk.ev) (by decide +kernel) (hk.2.2.2.2.1.narrow (fun q h => Nat.le_trans hk.N h)) (hk.2.2.2.2.2.1.narrow (fun q h => Nat.le_trans hk.N h)) hS (hl.1.trans X.1.2.2.1.symm) dX1_requireState_4 dX1_requireState_7 dX1_requireState_8 dX1_requireState_11 (fun x hx => (hno_ x hx).elim) (by decide) (by decide) (Nat.le_refl _) (Nat.le_refl _) X.2.2 (fun t ha hz hq => ⟨rfl, hz, fun q h1 _ => hq q h1⟩) (fun z hz => nomatch hz) (Nat.le_refl _) (Nat.le_refl _)
set_option maxHeartbeats 4000000 in
theorem p_requireState (l : Launch) (E : EP) (H : Heap) : gMv l E yX1_requireState cX1_requireState 1 0 0 0 H [.int (iI 1)] (fun _ => False) (fun H1 => H1 = H) := by
  refine g_met (plainFor_of_name (by decide)) (Nat.le_of_ble_eq_true rfl) (fun P_ e_ s M_ bl mt_ c_ ls X hmeth_ hk hh hl => ?_)
  subst hh
  have X : gX P_ s M_ mt_ c_ cX1_requireState 1 ([.int (iI 1)] : List Value).toArray RX1 none := X
  have hl : lv_has ls 1 [(0, .int (iI 1))] := hl
  have hS : va_S (fun _ => False) s.heap s.heap [] := va_S.rf
  refine g_iload_n X dX1_requireState_0 rfl hl 0 rfl ?_
  refine g_if_ne X dX1_requireState_1 (tgt := 12) (by decide) (by omega) (fun c1 => ?_) (fun c1 => ?_)
  · exact g_vret X hS rfl ⟨Nat.le_refl _, Nat.le_refl _⟩ dX1_requireState_12
  · exact absurd c1 (by decide)
