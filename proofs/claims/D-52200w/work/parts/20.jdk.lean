set_option maxRecDepth 100000
set_option maxHeartbeats 4000000 in
theorem m_J17_signum (z : Zt) (l : Launch) {H : Heap} {x : Int32} : Ri z l yJ17_signum cJ17_signum 1 .int [.int x] H 1 (fun r => r = sg x) := by
  refine en_Ri (own := RJ17) (by decide) rfl (Nat.le_of_ble_eq_true rfl) ?_
  intro ag pp ev sS mM below meth cd ls Q C hS hl hR
  have hx := C.1.1
  have hb := C.1.2.1
  have hl : lv_has ls 1 [(0, .int x)] := hl
  refine lv_iload_n hx hb dJ17_signum_0 rfl (lv_at hl 0 rfl) ?_
  refine lv_bipush (v := 31) hx hb dJ17_signum_1 (by decide) ?_
  refine lv_ishr hx hb dJ17_signum_3 ?_
  refine lv_iload_n hx hb dJ17_signum_4 rfl (lv_at hl 0 rfl) ?_
  refine lv_ineg hx hb dJ17_signum_5 ?_
  refine lv_bipush (v := 31) hx hb dJ17_signum_6 (by decide) ?_
  refine lv_iushr hx hb dJ17_signum_8 rfl ?_
  refine lv_ior hx hb dJ17_signum_9 ?_
  exact hR _ _ _ dJ17_signum_10 rfl (rfl)

set_option maxHeartbeats 4000000 in
theorem m_J17_intValue (z : Zt) (l : Launch) {H : Heap} {j : Nat} (hj : j < 128) : Ri z l yJ17_intValue cJ17_intValue 1 .int [.ref (zi z (j + 128))] H 1 (fun r => r = nI j) := by
  refine en_Ri (own := RJ17) (by decide) rfl (Nat.le_of_ble_eq_true rfl) ?_
  intro ag pp ev sS mM below meth cd ls Q C hS hl hR
  have hx := C.1.1
  have hb := C.1.2.1
  have hl : lv_has ls 1 [(0, .ref (zi z (j + 128)))] := hl
  refine lv_aload_n hx hb dJ17_intValue_0 rfl (lv_at hl 0 rfl) ?_
  refine va_getX hx hb C.zIC.2 (i := j + 128) (by omega) hS C.1.2.2.2.1 (C.1.2.2.2.2 _ q568) (fun _ h => h) dJ17_intValue_1 ?_
  exact hR _ _ _ dJ17_intValue_4 rfl (vb_c_nI j)

set_option maxHeartbeats 4000000 in
theorem m_J17_valueOf (z : Zt) (l : Launch) {H : Heap} {j : Nat} (hj : j < 128) : Rq z l yJ17_valueOf cJ17_valueOf 1 (.object "java/lang/Integer") [.int (nI j)] H 2 (fun r => r = some (zi z (j + 128))) := by
  refine en_Rq (own := RJ17) (by decide) rfl (Nat.le_of_ble_eq_true rfl) (Or.inl ⟨_, rfl⟩) ?_
  intro ag pp ev sS mM below meth cd ls Q C hS hl hR
  have hx := C.1.1
  have hb := C.1.2.1
  have hl : lv_has ls 1 [(0, .int (nI j))] := hl
  refine lv_iload_n hx hb dJ17_valueOf_0 rfl (lv_at hl 0 rfl) ?_
  refine lv_bipush (v := (-128)) hx hb dJ17_valueOf_1 (by decide) ?_
  refine lv_icmp_lt (tgt := 23) hx hb dJ17_valueOf_3 (by decide) (fun c_3 => ?_) (fun c_3 => ?_)
  · skip
    exact absurd c_3 (by rw [Int32.lt_iff_toInt_lt, nI_toInt (by omega)]; simp)
  · skip
    refine lv_iload_n hx hb dJ17_valueOf_6 rfl (lv_at hl 0 rfl) ?_
    refine va_gets hx hb C.zHI hS C.1.2.2.2.1 (C.1.2.2.2.2 _ q555) (fun _ h => h) dJ17_valueOf_7 ?_
    refine lv_icmp_gt (tgt := 23) hx hb dJ17_valueOf_10 (by decide) (fun c_10 => ?_) (fun c_10 => ?_)
    · skip
      exact absurd c_10 (by rw [Int32.lt_iff_toInt_lt, nI_toInt (by omega)]; simp; omega)
    · skip
      refine va_gets hx hb C.zCA hS C.1.2.2.2.1 (C.1.2.2.2.2 _ q557) (fun _ h => h) dJ17_valueOf_13 ?_
      refine lv_iload_n hx hb dJ17_valueOf_16 rfl (lv_at hl 0 rfl) ?_
      refine lv_sipush (v := 128) hx hb dJ17_valueOf_17 (by decide) ?_
      refine lv_iadd hx hb dJ17_valueOf_20 ?_
      refine vb_tq hx hb C.tCA hS (N := 256) (by rw [show nI j + 128 = nI (j + 128) from (nI_add j 128)]; exact vp_in_nI (by omega) (by omega)) (v := .ref (zi z (j + 128))) (by rw [show nI j + 128 = nI (j + 128) from (nI_add j 128), nI_clamp (by omega)]) dJ17_valueOf_21 ?_
      exact hR _ _ (some _) dJ17_valueOf_22 (rfl)

set_option maxHeartbeats 4000000 in
theorem m_J10_checkIndex (z : Zt) (l : Launch) {H : Heap} {i n : Int32} (h0 : ¬ i < 0) (h1 : i < n) : Ri z l yJ10_checkIndex cJ10_checkIndex 3 .int [.int i, .int n, .null] H 1 (fun r => r = i) := by
  refine en_Ri (own := RJ10) (by decide) rfl (Nat.le_of_ble_eq_true rfl) ?_
  intro ag pp ev sS mM below meth cd ls Q C hS hl hR
  have hx := C.1.1
  have hb := C.1.2.1
  have hl : lv_has ls 3 [(0, .int i), (1, .int n), (2, .null)] := hl
  refine lv_iload_n hx hb dJ10_checkIndex_0 rfl (lv_at hl 0 rfl) ?_
  refine lv_if_lt (tgt := 9) hx hb dJ10_checkIndex_1 (by decide) (fun c_1 => ?_) (fun c_1 => ?_)
  · skip
    exact absurd c_1 h0
  · skip
    refine lv_iload_n hx hb dJ10_checkIndex_4 rfl (lv_at hl 0 rfl) ?_
    refine lv_iload_n hx hb dJ10_checkIndex_5 rfl (lv_at hl 1 rfl) ?_
    refine lv_icmp_lt (tgt := 16) hx hb dJ10_checkIndex_6 (by decide) (fun c_6 => ?_) (fun c_6 => ?_)
    · skip
      refine lv_iload_n hx hb dJ10_checkIndex_16 rfl (lv_at hl 0 rfl) ?_
      exact hR _ _ _ dJ10_checkIndex_17 rfl (rfl)
    · skip
      exact absurd h1 c_6

set_option maxHeartbeats 4000000 in
theorem m_J9_checkIndex (z : Zt) (l : Launch) {H : Heap} {i n : Int32} (h0 : ¬ i < 0) (h1 : i < n) : Ri z l yJ9_checkIndex cJ9_checkIndex 2 .int [.int i, .int n] H 2 (fun r => r = i) := by
  refine en_Ri (own := RJ9) (by decide) rfl (Nat.le_of_ble_eq_true rfl) ?_
  intro ag pp ev sS mM below meth cd ls Q C hS hl hR
  have hx := C.1.1
  have hb := C.1.2.1
  have hl : lv_has ls 2 [(0, .int i), (1, .int n)] := hl
  refine lv_iload_n hx hb dJ9_checkIndex_0 rfl (lv_at hl 0 rfl) ?_
  refine lv_iload_n hx hb dJ9_checkIndex_1 rfl (lv_at hl 1 rfl) ?_
  refine lv_null hx hb dJ9_checkIndex_2 ?_
  refine cv_J9_105 C hS (m_J10_checkIndex z l h0 h1) (Nat.le_of_ble_eq_true rfl) hl.1 (Nat.le_of_ble_eq_true rfl) (by omega) (by omega) dJ9_checkIndex_3 (fun r_3 h_3 => ?_)
  exact hR _ _ _ dJ9_checkIndex_6 rfl (h_3)

set_option maxHeartbeats 4000000 in
theorem m_J2_size (z : Zt) (l : Launch) {H : Heap} {a e n : Nat} {md : Int32} (hq : c1 z a (.inr (2, [.int md, .ref e, .int (nI n)])) H) : Ri z l yJ2_size cJ2_size 1 .int [.ref a] H 1 (fun r => r = nI n) := by
  refine en_Ri (own := RJ2) (by decide) rfl (Nat.le_of_ble_eq_true rfl) ?_
  intro ag pp ev sS mM below meth cd ls Q C hS hl hR
  have hx := C.1.1
  have hb := C.1.2.1
  have hl : lv_has ls 1 [(0, .ref a)] := hl
  refine lv_aload_n hx hb dJ2_size_0 rfl (lv_at hl 0 rfl) ?_
  refine gf_J2_48 C hq rfl dJ2_size_1 ?_
  exact hR _ _ _ dJ2_size_4 rfl (rfl)

set_option maxHeartbeats 4000000 in
theorem m_J2_isEmpty (z : Zt) (l : Launch) {H : Heap} {a e n : Nat} {md : Int32} (hq : c1 z a (.inr (2, [.int md, .ref e, .int (nI n)])) H) : Ri z l yJ2_isEmpty cJ2_isEmpty 1 .boolean [.ref a] H 1 (fun r => r = if nI n = 0 then 1 else 0) := by
  refine en_Ri (own := RJ2) (by decide) rfl (Nat.le_of_ble_eq_true rfl) ?_
  intro ag pp ev sS mM below meth cd ls Q C hS hl hR
  have hx := C.1.1
  have hb := C.1.2.1
  have hl : lv_has ls 1 [(0, .ref a)] := hl
  refine lv_aload_n hx hb dJ2_isEmpty_0 rfl (lv_at hl 0 rfl) ?_
  refine gf_J2_48 C hq rfl dJ2_isEmpty_1 ?_
  refine lv_if_ne (tgt := 11) hx hb dJ2_isEmpty_4 (by decide) (fun c_4 => ?_) (fun c_4 => ?_)
  · skip
    refine lv_iconst (v := 0) hx hb dJ2_isEmpty_11 (by decide) ?_
    exact hR _ _ _ dJ2_isEmpty_12 rfl (by simp [c_4])
  · skip
    refine lv_iconst (v := 1) hx hb dJ2_isEmpty_7 (by decide) ?_
    refine lv_goto (tgt := 12) hx hb dJ2_isEmpty_8 (by decide) ?_
    exact hR _ _ _ dJ2_isEmpty_12 rfl (by simp [c_4])

set_option maxHeartbeats 4000000 in
theorem m_J2_elementData (z : Zt) (l : Launch) {H : Heap} {a e n : Nat} {md : Int32} (hq : c1 z a (.inr (2, [.int md, .ref e, .int (nI n)])) H) {cap i : Nat} {f : Nat → Option Nat} (he : c1 z e (aQ z cap f) H) (hi : i < cap) (hc : cap < 1000) : Rq z l yJ2_elementData cJ2_elementData 2 (.object "java/lang/Object") [.ref a, .int (nI i)] H 1 (fun r => r = f i) := by
  refine en_Rq (own := RJ2) (by decide) rfl (Nat.le_of_ble_eq_true rfl) (Or.inl ⟨_, rfl⟩) ?_
  intro ag pp ev sS mM below meth cd ls Q C hS hl hR
  have hx := C.1.1
  have hb := C.1.2.1
  have hl : lv_has ls 2 [(0, .ref a), (1, .int (nI i))] := hl
  refine lv_aload_n hx hb dJ2_elementData_0 rfl (lv_at hl 0 rfl) ?_
  refine gf_J2_9 C hq rfl dJ2_elementData_1 ?_
  refine lv_iload_n hx hb dJ2_elementData_4 rfl (lv_at hl 1 rfl) ?_
  refine g_qald C he (vp_in_nI hi (by omega)) dJ2_elementData_5 ?_
  rw [nI_clamp (by omega)]
  exact hR _ _ _ dJ2_elementData_6 (rfl)

set_option maxHeartbeats 4000000 in
theorem m_J2_get (z : Zt) (l : Launch) {H : Heap} {a e n : Nat} {md : Int32} (hq : c1 z a (.inr (2, [.int md, .ref e, .int (nI n)])) H) {cap i : Nat} {f : Nat → Option Nat} (he : c1 z e (aQ z cap f) H) (hi : i < n) (hn : n ≤ cap) (hc : cap < 1000) : Rq z l yJ2_get cJ2_get 2 (.object "java/lang/Object") [.ref a, .int (nI i)] H 3 (fun r => r = f i) := by
  refine en_Rq (own := RJ2) (by decide) rfl (Nat.le_of_ble_eq_true rfl) (Or.inl ⟨_, rfl⟩) ?_
  intro ag pp ev sS mM below meth cd ls Q C hS hl hR
  have hx := C.1.1
  have hb := C.1.2.1
  have hl : lv_has ls 2 [(0, .ref a), (1, .int (nI i))] := hl
  refine lv_iload_n hx hb dJ2_get_0 rfl (lv_at hl 1 rfl) ?_
  refine lv_aload_n hx hb dJ2_get_1 rfl (lv_at hl 0 rfl) ?_
  refine gf_J2_48 C hq rfl dJ2_get_2 ?_
  refine cv_J2_118 C hS (m_J9_checkIndex z l (nI_pos (by omega)) (nI_lt hi (by omega))) (Nat.le_of_ble_eq_true rfl) hl.1 (Nat.le_of_ble_eq_true rfl) (by omega) (by omega) dJ2_get_5 (fun r_5 h_5 => ?_)
  refine lv_pop hx hb dJ2_get_8 rfl ?_
  refine lv_aload_n hx hb dJ2_get_9 rfl (lv_at hl 0 rfl) ?_
  refine lv_iload_n hx hb dJ2_get_10 rfl (lv_at hl 1 rfl) ?_
  refine cv_J2_123 C hq hS (m_J2_elementData z l hq he (by omega) hc) (Nat.le_of_ble_eq_true rfl) hl.1 (Nat.le_of_ble_eq_true rfl) (by omega) (by omega) dJ2_get_11 (fun r_11 h_11 => ?_)
  exact hR _ _ _ dJ2_get_14 (h_11)

