set_option maxRecDepth 100000
set_option maxHeartbeats 4000000 in
theorem m_X6_init (z : Zt) (l : Launch) {H : Heap} {a ra : Nat} {ce c9 nx : Int32} {v : Value} (hq : c1 z a (.inr (6, [.int c9, v, .int nx])) H) (hA : AA z a) : Kv z l yX6_init cX6_init 3 [.ref a, .int ce, .ref ra] H 1 0 0 (fun H1 => Up z a (.inr (6, [.int ce, .ref ra, .int nx])) H H1) := by
  refine en_Kv (own := RX6) (by decide) rfl (Nat.le_of_ble_eq_true rfl) ?_
  intro ag pp ev sS mM below meth cd ls Q C hin hS hl hR
  have hx := C.1.1
  have hb := C.1.2.1
  have hl : lv_has ls 3 [(0, .ref a), (1, .int ce), (2, .ref ra)] := hl
  refine lv_aload_n hx hb dX6_init_0 rfl (lv_at hl 0 rfl) ?_
  refine r_objInit C (C.1.2.2.2.2 _ q590) (Nat.le_of_ble_eq_true rfl) hl.1 (Nat.le_of_ble_eq_true rfl) dX6_init_1 ?_
  refine lv_aload_n hx hb dX6_init_4 rfl (lv_at hl 0 rfl) ?_
  refine lv_iload_n hx hb dX6_init_5 rfl (lv_at hl 1 rfl) ?_
  refine pf_X6_7 C hq (Nat.le_of_ble_eq_true rfl) rfl rfl hS hA dX6_init_6 (fun H1 locs hu hS => ?_)
  have hu1 := hu
  refine lv_aload_n hx hb dX6_init_9 rfl (lv_at hl 0 rfl) ?_
  refine lv_aload_n hx hb dX6_init_10 rfl (lv_at hl 2 rfl) ?_
  refine pf_X6_13 C hin hu1.1 (Nat.le_of_ble_eq_true rfl) rfl rfl hS hA dX6_init_11 (fun H1 locs hu hS => ?_)
  have hu2 := hu1.tr hu
  exact hR _ _ _ _ _ _ dX6_init_14 hS (by omega) (by omega) (hu2)

set_option maxHeartbeats 4000000 in
theorem m_X6_copy (z : Zt) (l : Launch) {H : Heap} {a ra : Nat} {ce nx : Int32} (hq : c1 z a (.inr (6, [.int ce, .ref ra, .int nx])) H) : Kq z l yX6_copy cX6_copy 2 (.object "LaneCrowds$Patrol") [.ref a] H 2 1 3 (fun r H1 => r = some H.size ∧ New z (.inr (6, [.int ce, .ref ra, .int nx])) H H1) := by
  refine en_Kq (own := RX6) (by decide) rfl (Nat.le_of_ble_eq_true rfl) (Or.inl ⟨_, rfl⟩) ?_
  intro ag pp ev sS mM below meth cd ls Q C hS hl hR
  have hx := C.1.1
  have hb := C.1.2.1
  have hl : lv_has ls 2 [(0, .ref a)] := hl
  have hA0 : AA z H.size := (C.2.2.1.S hS).1
  refine r_new (ci := 6) (fs := [.int 0, .null, .int 0]) (C := RX6) (T := TX6) (N := 3) C in_X6 tyX6 tyX6_ok (C.1.2.2.2.2 _ q732) (C.1.2.2.2.2 _ q586) (C.1.2.2.2.2 _ q62) rfl (fun j hj => by rcases (show j = 0 ∨ j = 1 ∨ j = 2 by omega) with rfl | rfl | rfl <;> rfl) hS (by omega) (by omega) dX6_copy_0 (fun H1 hn hS => ?_)
  have hq1 := hq.ext hn.ext
  refine lv_dup hx hb dX6_copy_3 rfl ?_
  refine lv_aload_n hx hb dX6_copy_4 rfl (lv_at hl 0 rfl) ?_
  refine gf_X6_7 C hq1 rfl dX6_copy_5 ?_
  refine lv_aload_n hx hb dX6_copy_8 rfl (lv_at hl 0 rfl) ?_
  refine gf_X6_13 C hq1 rfl dX6_copy_9 ?_
  refine cv_X6_17 C hS (m_X6_init z l hn.1 hA0) (Nat.le_of_ble_eq_true rfl) hl.1 (Nat.le_of_ble_eq_true rfl) (by omega) (by omega) dX6_copy_12 (fun H1 locs h_12 hz_12 hS => ?_)
  have hn2 := hn.up h_12
  have hq2 := hq.ext hn2.ext
  refine lv_astore_n (lv' := [(1, _), (0, _)]) hx hb dX6_copy_15 rfl hl (by decide) rfl (fun ls hl => ?_)
  refine lv_aload_n hx hb dX6_copy_16 rfl (lv_at hl 0 rfl) ?_
  refine lv_aload_n hx hb dX6_copy_17 rfl (lv_at hl 1 rfl) ?_
  refine gf_X6_20 C hq2 rfl dX6_copy_18 ?_
  refine pf_X6_20 C hn2.1 (Nat.le_of_ble_eq_true rfl) rfl rfl hS hA0 dX6_copy_21 (fun H1 locs hu hS => ?_)
  have hn3 := hn2.up hu
  refine lv_aload_n hx hb dX6_copy_24 rfl (lv_at hl 0 rfl) ?_
  exact hR _ _ (some _) _ _ _ _ dX6_copy_25 hS (by omega) (by omega) (⟨rfl, hn3⟩)

def CrR (z : Zt) (a : Nat) (ce pe : Int32) (H H1 : Heap) : Prop := c1 z a (.inr (5, [.int ce, .int pe, .int 1, .int 0, .ref H.size])) H1 ∧ c1 z H.size (.inr (2, [.int 0, .ref (zs z 0), .int (nI 0)])) H1 ∧ H1.size = H.size + 1 ∧ ∀ q, q < H.size → q ≠ a → H1[q]? = H[q]?

set_option maxHeartbeats 4000000 in
theorem m_X5_init (z : Zt) (l : Launch) {H : Heap} {a : Nat} {ce pe : Int32} (hq : c1 z a (.inr (5, [.int 0, .int 0, .int 0, .int 0, .null])) H) (hA : AA z a) : Kv z l yX5_init cX5_init 3 [.ref a, .int ce, .int pe] H 4 1 3 (fun H1 => CrR z a ce pe H H1) := by
  refine en_Kv (own := RX5) (by decide) rfl (Nat.le_of_ble_eq_true rfl) ?_
  intro ag pp ev sS mM below meth cd ls Q C hin hS hl hR
  have hx := C.1.1
  have hb := C.1.2.1
  have hl : lv_has ls 3 [(0, .ref a), (1, .int ce), (2, .int pe)] := hl
  have hlt := hq.lt
  have hA0 : AA z H.size := (C.2.2.1.S hS).1
  refine lv_aload_n hx hb dX5_init_0 rfl (lv_at hl 0 rfl) ?_
  refine r_objInit C (C.1.2.2.2.2 _ q443) (Nat.le_of_ble_eq_true rfl) hl.1 (Nat.le_of_ble_eq_true rfl) dX5_init_1 ?_
  refine lv_aload_n hx hb dX5_init_4 rfl (lv_at hl 0 rfl) ?_
  refine lv_iconst (v := 1) hx hb dX5_init_5 (by decide) ?_
  refine pf_X5_9 C hq (Nat.le_of_ble_eq_true rfl) rfl rfl hS hA dX5_init_6 (fun H1 locs hu hS => ?_)
  have hu1 := hu
  have hs1 := hu1.2.1
  refine lv_aload_n hx hb dX5_init_9 rfl (lv_at hl 0 rfl) ?_
  refine r_new (ci := 2) (fs := [.int 0, .null, .int 0]) (C := RJ2) (T := TJ2) (N := 3) C in_J2 tyJ2 tyJ2_ok (C.1.2.2.2.2 _ q444) (C.1.2.2.2.2 _ q78) (C.1.2.2.2.2 _ q41) rfl (fun j hj => by rcases (show j = 0 ∨ j = 1 ∨ j = 2 by omega) with rfl | rfl | rfl <;> rfl) hS (by omega) (by omega) dX5_init_10 (fun H1 hn hS => ?_)
  have hn1 := hn
  have hsa := hn1.2.1
  refine lv_dup hx hb dX5_init_13 rfl ?_
  refine cv_X5_17 C hS (m_J2_init z l hn1.1 (by show _ ≤ _; rw [hs1]; exact hA0)) (Nat.le_of_ble_eq_true rfl) hl.1 (Nat.le_of_ble_eq_true rfl) (by omega) (by omega) dX5_init_14 (fun H1 locs h_14 hz_14 hS => ?_)
  have hl1 := h_14
  have hc1 := (hu1.1.ext hn1.ext).up hl1 (by omega)
  have hsl := hl1.2.1
  refine pf_X5_18 C hin hc1 (Nat.le_of_ble_eq_true rfl) rfl rfl hS hA dX5_init_17 (fun H1 locs hu hS => ?_)
  have hu2 := hu
  refine lv_aload_n hx hb dX5_init_20 rfl (lv_at hl 0 rfl) ?_
  refine lv_iload_n hx hb dX5_init_21 rfl (lv_at hl 1 rfl) ?_
  refine pf_X5_22 C hu2.1 (Nat.le_of_ble_eq_true rfl) rfl rfl hS hA dX5_init_22 (fun H1 locs hu hS => ?_)
  have hu3 := hu2.tr hu
  refine lv_aload_n hx hb dX5_init_25 rfl (lv_at hl 0 rfl) ?_
  refine lv_iload_n hx hb dX5_init_26 rfl (lv_at hl 2 rfl) ?_
  refine pf_X5_26 C hu3.1 (Nat.le_of_ble_eq_true rfl) rfl rfl hS hA dX5_init_27 (fun H1 locs hu hS => ?_)
  have hu4 := hu3.tr hu
  exact hR _ _ _ _ _ _ dX5_init_30 hS (by omega) (by omega) (⟨by have := hu4.1; rw [hs1] at this; exact this, by rw [← hs1]; exact hl1.1.up hu4 (by omega), by rw [hu4.2.1, hsl, hsa, hs1], fun q h1 h2 => by rw [hu4.2.2 q h2, hl1.2.2 q (by omega), hn1.2.2 q (by omega), hu1.2.2 q h2]⟩)

def QiR (z : Zt) (a : Nat) (H H1 : Heap) : Prop := c1 z a (.inr (1, [.int 0, .ref H.size, .ref (H.size + 1), .ref (H.size + 2)])) H1 ∧ c1 z H.size (aI z 108 (fun _ => 0)) H1 ∧ c1 z (H.size + 1) (.inr (2, [.int 0, .ref (zs z 0), .int (nI 0)])) H1 ∧ c1 z (H.size + 2) (.inr (2, [.int 0, .ref (zs z 0), .int (nI 0)])) H1 ∧ H1.size = H.size + 3 ∧ ∀ q, q < H.size → q ≠ a → H1[q]? = H[q]?

set_option maxHeartbeats 4000000 in
theorem m_X2_init (z : Zt) (l : Launch) {H : Heap} {a : Nat} (hq : c1 z a (.inr (1, [.int 0, .null, .null, .null])) H) (hA : AA z a) : Kv z l yX2_init cX2_init 1 [.ref a] H 4 3 114 (fun H1 => QiR z a H H1) := by
  refine en_Kv (own := RX2) (by decide) rfl (Nat.le_of_ble_eq_true rfl) ?_
  intro ag pp ev sS mM below meth cd ls Q C hin hS hl hR
  have hx := C.1.1
  have hb := C.1.2.1
  have hl : lv_has ls 1 [(0, .ref a)] := hl
  have hlt := hq.lt
  have hA0 : AA z H.size := (C.2.2.1.S hS).1
  refine lv_aload_n hx hb dX2_init_0 rfl (lv_at hl 0 rfl) ?_
  refine r_objInit C (C.1.2.2.2.2 _ q76) (Nat.le_of_ble_eq_true rfl) hl.1 (Nat.le_of_ble_eq_true rfl) dX2_init_1 ?_
  refine lv_aload_n hx hb dX2_init_4 rfl (lv_at hl 0 rfl) ?_
  refine lv_bipush (v := 108) hx hb dX2_init_5 (by decide) ?_
  refine r_newi C (by decide) (N := 108) rfl (by omega) hS (by omega) (by omega) dX2_init_7 (fun H1 hn hS => ?_)
  have hn1 := hn
  have s1 := hn1.2.1
  refine pf_X2_9 C hin (hq.ext hn1.ext) (Nat.le_of_ble_eq_true rfl) rfl rfl hS hA dX2_init_9 (fun H1 locs hu hS => ?_)
  have hu1 := hu
  have s2 := hu1.2.1
  have k1 := hn1.1.up hu1 (by omega)
  refine lv_aload_n hx hb dX2_init_12 rfl (lv_at hl 0 rfl) ?_
  refine r_new (ci := 2) (fs := [.int 0, .null, .int 0]) (C := RJ2) (T := TJ2) (N := 3) C in_J2 tyJ2 tyJ2_ok (C.1.2.2.2.2 _ q77) (C.1.2.2.2.2 _ q78) (C.1.2.2.2.2 _ q41) rfl (fun j hj => by rcases (show j = 0 ∨ j = 1 ∨ j = 2 by omega) with rfl | rfl | rfl <;> rfl) hS (by omega) (by omega) dX2_init_13 (fun H1 hn hS => ?_)
  have hn2 := hn
  have s3 := hn2.2.1
  rw [s2, s1]
  have hn2a := hn2.1
  rw [s2, s1] at hn2a
  refine lv_dup hx hb dX2_init_16 rfl ?_
  refine cv_X2_17 C hS (m_J2_init z l hn2a (Nat.le_succ_of_le hA0)) (Nat.le_of_ble_eq_true rfl) hl.1 (Nat.le_of_ble_eq_true rfl) (by omega) (by omega) dX2_init_17 (fun H1 locs h_17 hz_17 hS => ?_)
  have hl1 := h_17
  have s4 := hl1.2.1
  have c4 := (hu1.1.ext hn2.ext).up hl1 (by omega)
  have k4 := (k1.ext hn2.ext).up hl1 (by omega)
  refine pf_X2_18 C hin c4 (Nat.le_of_ble_eq_true rfl) rfl rfl hS hA dX2_init_20 (fun H1 locs hu hS => ?_)
  have hu2 := hu
  have s5 := hu2.2.1
  have k5 := k4.up hu2 (by omega)
  have l5 := hl1.1.up hu2 (by omega)
  refine lv_aload_n hx hb dX2_init_23 rfl (lv_at hl 0 rfl) ?_
  refine r_new (ci := 2) (fs := [.int 0, .null, .int 0]) (C := RJ2) (T := TJ2) (N := 3) C in_J2 tyJ2 tyJ2_ok (C.1.2.2.2.2 _ q77) (C.1.2.2.2.2 _ q78) (C.1.2.2.2.2 _ q41) rfl (fun j hj => by rcases (show j = 0 ∨ j = 1 ∨ j = 2 by omega) with rfl | rfl | rfl <;> rfl) hS (by omega) (by omega) dX2_init_24 (fun H1 hn hS => ?_)
  have hn3 := hn
  have s6 := hn3.2.1
  have hn3a := hn3.1
  have e9 : Array.size H1 - 1 = H.size + 2 := by omega
  rw [s5, s4, s3, s2, s1] at hn3a ⊢
  refine lv_dup hx hb dX2_init_27 rfl ?_
  refine cv_X2_17 C hS (m_J2_init z l hn3a (Nat.le_succ_of_le (Nat.le_succ_of_le hA0))) (Nat.le_of_ble_eq_true rfl) hl.1 (Nat.le_of_ble_eq_true rfl) (by omega) (by omega) dX2_init_28 (fun H1 locs h_28 hz_28 hS => ?_)
  have hl2 := h_28
  have s7 := hl2.2.1
  have c7 := (hu2.1.ext hn3.ext).up hl2 (by omega)
  have k7 := (k5.ext hn3.ext).up hl2 (by omega)
  have l7 := (l5.ext hn3.ext).up hl2 (by omega)
  refine pf_X2_22 C hin c7 (Nat.le_of_ble_eq_true rfl) rfl rfl hS hA dX2_init_31 (fun H1 locs hu hS => ?_)
  have hu3 := hu
  exact hR _ _ _ _ _ _ dX2_init_34 hS (by omega) (by omega) (⟨hu3.1, k7.up hu3 (by omega), l7.up hu3 (by omega), hl2.1.up hu3 (by omega), by rw [hu3.2.1, s7, s6, s5, s4, s3, s2, s1], fun q h1 h2 => by rw [hu3.2.2 q h2, hl2.2.2 q (by omega), hn3.2.2 q (by omega), hu2.2.2 q h2, hl1.2.2 q (by omega), hn2.2.2 q (by omega), hu1.2.2 q h2, hn1.2.2 q h1]⟩)

