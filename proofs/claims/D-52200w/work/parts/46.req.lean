set_option maxRecDepth 100000
abbrev eA_ : String := "java/lang/IllegalArgumentException"
abbrev eS_ : String := "java/lang/IllegalStateException"
abbrev eI_ : String := "java/lang/IndexOutOfBoundsException"
abbrev eN_ : List String := ["java/lang/RuntimeException", "java/lang/Exception"]
theorem t_A1 : ∀ w ∈ (vx_at0 RX1 5 eA_ eN_).filter goodWord, w ∈ lw_tbl := by decide +kernel
theorem t_S1 : ∀ w ∈ (vx_at0 RX1 11 eS_ eN_).filter goodWord, w ∈ lw_tbl := by decide +kernel
theorem t_I1 : ∀ w ∈ (vx_at0 RX1 14 eI_ eN_).filter goodWord, w ∈ lw_tbl := by decide +kernel
theorem t_A2 : ∀ w ∈ (vx_at0 RX1 5 eA_ eN_).filter (fun w => !goodWord w), w ∈ Cond.castable eA_ eA_ :: dcl.map Cond.declares := by decide +kernel
theorem t_S2 : ∀ w ∈ (vx_at0 RX1 11 eS_ eN_).filter (fun w => !goodWord w), w ∈ Cond.castable eS_ eS_ :: dcl.map Cond.declares := by decide +kernel
theorem t_I2 : ∀ w ∈ (vx_at0 RX1 14 eI_ eN_).filter (fun w => !goodWord w), w ∈ Cond.castable eI_ eI_ :: dcl.map Cond.declares := by decide +kernel
theorem t_A3 : ∀ w ∈ Cond.classLink RX1 3 eA_ :: Cond.initialized eA_ :: vx_at0 RX1 5 eA_ eN_, vx_ot w = true := by decide +kernel
theorem t_S3 : ∀ w ∈ Cond.classLink RX1 9 eS_ :: Cond.initialized eS_ :: vx_at0 RX1 11 eS_ eN_, vx_ot w = true := by decide +kernel
theorem t_I3 : ∀ w ∈ Cond.classLink RX1 12 eI_ :: Cond.initialized eI_ :: vx_at0 RX1 14 eI_ eN_, vx_ot w = true := by decide +kernel
theorem t_n : ∀ n ∈ eN_, Bundle.fit n = true := by decide +kernel

theorem t_dc {z : Zt} {s : State} {ag : Array Value} (h : GV z s) : ∀ w ∈ dcl.map Cond.declares, w.before ag s = true := by
  intro w hw
  obtain ⟨y, hy, rfl⟩ := List.mem_map.mp hw
  exact va_Nw.use rfl (h.2.2.2.2.2.2.2.2 y hy)
theorem t_hat {z : Zt} {pp : Program} {s : State} {m : MethodId} {ag : Array Value} {meth : Method} {c : Code} {cc : ByteArray} {nL : Nat} {own : String} (C : CX z pp s m ag meth c cc nL own) {L : List Cond} {E : String} (h1 : ∀ w ∈ L.filter goodWord, w ∈ lw_tbl) (h2 : ∀ w ∈ L.filter (fun w => !goodWord w), w ∈ Cond.castable E E :: dcl.map Cond.declares) (hc : va_Nw (.castable E E) s) : ∀ w ∈ L, w.before ag s = true :=
  vx_hat (fun w h => C.1.2.2.2.2 w (List.mem_filter.mpr ⟨h1 w h, (List.mem_filter.mp h).2⟩)) h2 (vx_c (va_Nw.use rfl hc) (t_dc C.2.1))
def cOk (x y : Int32) : Prop := 0 ≤ x ∧ x < y

set_option maxHeartbeats 4000000 in
theorem m_X1_require (z : Zt) (l : Launch) (hlT : l.stackTraces = false) {H : Heap} {b : Int32} : Xv z l yX1_require cX1_require 1 [.int b] H 6 1 6 (fun H1 => H1 = H ∧ b ≠ 0) (fun E => E = eA_ ∧ b = 0) := by
  refine en_Xt (own := RX1) (by decide) rfl (Nat.le_of_ble_eq_true rfl) ?_
  intro ag pp ev sS mM below meth cd ls C hX hH hS hl hR
  have hx := C.1.1
  have hb := C.1.2.1
  have hl : lv_has ls 1 [(0, .int b)] := hl
  refine lv_iload_n hx hb dX1_require_0 rfl (lv_at hl 0 rfl) ?_
  refine lv_if_ne (tgt := 12) hx hb dX1_require_1 (by decide) (fun c_1 => ?_) (fun c_1 => ?_)
  · exact hR _ _ _ _ _ _ dX1_require_12 hS (by omega) (by omega) ⟨rfl, c_1⟩
  · have hbad : b = 0 := by first | exact c_1 | exact Decidable.not_not.mp c_1
    exact vx_throw0 hx hb hlT C.1.2.2.2.1 (by decide +kernel) t_n (C.1.2.2.2.2 _ q405) (C.1.2.2.2.2 _ q53) (t_hat C t_A1 t_A2 (C.2.1.nC 2 rfl)) t_A3 C.zUS C.zSS hS (hl.1.trans C.1.2.2.1.symm) dX1_require_4 dX1_require_7 dX1_require_8 dX1_require_11 (fun x h => (hX x h).elim) (Nat.le_of_ble_eq_true rfl) (Nat.le_of_ble_eq_true rfl) (Nat.le_of_ble_eq_true rfl) (Nat.le_of_ble_eq_true rfl) C.2.2.2 (fun t ha h1 h2 => ⟨t.heap, ⟨h1, h2⟩, ⟨rfl, by exact ⟨rfl, hbad⟩⟩, ⟨by rw [hH]; exact h1, fun q h3 h4 => by rw [hH] at h3 ⊢; exact h2 q h3⟩⟩) hS.2.2 (Nat.le_of_ble_eq_true rfl) (Nat.le_of_ble_eq_true rfl)

set_option maxHeartbeats 4000000 in
theorem m_X1_requireState (z : Zt) (l : Launch) (hlT : l.stackTraces = false) {H : Heap} {b : Int32} : Xv z l yX1_requireState cX1_requireState 1 [.int b] H 6 1 6 (fun H1 => H1 = H ∧ b ≠ 0) (fun E => E = eS_ ∧ b = 0) := by
  refine en_Xt (own := RX1) (by decide) rfl (Nat.le_of_ble_eq_true rfl) ?_
  intro ag pp ev sS mM below meth cd ls C hX hH hS hl hR
  have hx := C.1.1
  have hb := C.1.2.1
  have hl : lv_has ls 1 [(0, .int b)] := hl
  refine lv_iload_n hx hb dX1_requireState_0 rfl (lv_at hl 0 rfl) ?_
  refine lv_if_ne (tgt := 12) hx hb dX1_requireState_1 (by decide) (fun c_1 => ?_) (fun c_1 => ?_)
  · exact hR _ _ _ _ _ _ dX1_requireState_12 hS (by omega) (by omega) ⟨rfl, c_1⟩
  · have hbad : b = 0 := by first | exact c_1 | exact Decidable.not_not.mp c_1
    exact vx_throw0 hx hb hlT C.1.2.2.2.1 (by decide +kernel) t_n (C.1.2.2.2.2 _ q376) (C.1.2.2.2.2 _ q52) (t_hat C t_S1 t_S2 (C.2.1.nC 0 rfl)) t_S3 C.zUS C.zSS hS (hl.1.trans C.1.2.2.1.symm) dX1_requireState_4 dX1_requireState_7 dX1_requireState_8 dX1_requireState_11 (fun x h => (hX x h).elim) (Nat.le_of_ble_eq_true rfl) (Nat.le_of_ble_eq_true rfl) (Nat.le_of_ble_eq_true rfl) (Nat.le_of_ble_eq_true rfl) C.2.2.2 (fun t ha h1 h2 => ⟨t.heap, ⟨h1, h2⟩, ⟨rfl, by exact ⟨rfl, hbad⟩⟩, ⟨by rw [hH]; exact h1, fun q h3 h4 => by rw [hH] at h3 ⊢; exact h2 q h3⟩⟩) hS.2.2 (Nat.le_of_ble_eq_true rfl) (Nat.le_of_ble_eq_true rfl)

set_option maxHeartbeats 4000000 in
theorem m_X1_requireIndex (z : Zt) (l : Launch) (hlT : l.stackTraces = false) {H : Heap} {i n : Int32} : Xv z l yX1_requireIndex cX1_requireIndex 2 [.int i, .int n] H 6 1 6 (fun H1 => H1 = H ∧ cOk i n) (fun E => E = eI_ ∧ ¬ cOk i n) := by
  refine en_Xt (own := RX1) (by decide) rfl (Nat.le_of_ble_eq_true rfl) ?_
  intro ag pp ev sS mM below meth cd ls C hX hH hS hl hR
  have hx := C.1.1
  have hb := C.1.2.1
  have hl : lv_has ls 2 [(0, .int i), (1, .int n)] := hl
  refine lv_iload_n hx hb dX1_requireIndex_0 rfl (lv_at hl 0 rfl) ?_
  refine lv_if_lt (tgt := 9) hx hb dX1_requireIndex_1 (by decide) (fun c_1 => ?_) (fun c_1 => ?_)
  · have hbad : ¬ cOk i n := fun h => absurd h.1 (Int32.not_le.mpr c_1)
    exact vx_throw0 hx hb hlT C.1.2.2.2.1 (by decide +kernel) t_n (C.1.2.2.2.2 _ q348) (C.1.2.2.2.2 _ q47) (t_hat C t_I1 t_I2 (C.2.1.nC 8 rfl)) t_I3 C.zUS C.zSS hS (hl.1.trans C.1.2.2.1.symm) dX1_requireIndex_9 dX1_requireIndex_12 dX1_requireIndex_13 dX1_requireIndex_16 (fun x h => (hX x h).elim) (Nat.le_of_ble_eq_true rfl) (Nat.le_of_ble_eq_true rfl) (Nat.le_of_ble_eq_true rfl) (Nat.le_of_ble_eq_true rfl) C.2.2.2 (fun t ha h1 h2 => ⟨t.heap, ⟨h1, h2⟩, ⟨rfl, by exact ⟨rfl, hbad⟩⟩, ⟨by rw [hH]; exact h1, fun q h3 h4 => by rw [hH] at h3 ⊢; exact h2 q h3⟩⟩) hS.2.2 (Nat.le_of_ble_eq_true rfl) (Nat.le_of_ble_eq_true rfl)
  · refine lv_iload_n hx hb dX1_requireIndex_4 rfl (lv_at hl 0 rfl) ?_
    refine lv_iload_n hx hb dX1_requireIndex_5 rfl (lv_at hl 1 rfl) ?_
    refine lv_icmp_lt (tgt := 17) hx hb dX1_requireIndex_6 (by decide) (fun c_6 => ?_) (fun c_6 => ?_)
    · exact hR _ _ _ _ _ _ dX1_requireIndex_17 hS (by omega) (by omega) ⟨rfl, Int32.not_lt.mp c_1, c_6⟩
    · have hbad : ¬ cOk i n := fun h => absurd h.2 c_6
      exact vx_throw0 hx hb hlT C.1.2.2.2.1 (by decide +kernel) t_n (C.1.2.2.2.2 _ q348) (C.1.2.2.2.2 _ q47) (t_hat C t_I1 t_I2 (C.2.1.nC 8 rfl)) t_I3 C.zUS C.zSS hS (hl.1.trans C.1.2.2.1.symm) dX1_requireIndex_9 dX1_requireIndex_12 dX1_requireIndex_13 dX1_requireIndex_16 (fun x h => (hX x h).elim) (Nat.le_of_ble_eq_true rfl) (Nat.le_of_ble_eq_true rfl) (Nat.le_of_ble_eq_true rfl) (Nat.le_of_ble_eq_true rfl) C.2.2.2 (fun t ha h1 h2 => ⟨t.heap, ⟨h1, h2⟩, ⟨rfl, by exact ⟨rfl, hbad⟩⟩, ⟨by rw [hH]; exact h1, fun q h3 h4 => by rw [hH] at h3 ⊢; exact h2 q h3⟩⟩) hS.2.2 (Nat.le_of_ble_eq_true rfl) (Nat.le_of_ble_eq_true rfl)

