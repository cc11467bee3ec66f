set_option maxRecDepth 100000
theorem c0 : (0 : Int32).toNatClampNeg = 0 := by decide
/-- a list behind 'remove(0)' -/
def RemR (z : Zt) (a e : Nat) (md : Int32) (n cap : Nat) (f : Nat → Option Nat) (H H1 : Heap) : Prop := c1 z a (.inr (2, [.int md, .ref e, .int (nI n)])) H1 ∧ c1 z e (aQ z cap (fun i => f (i + 1))) H1 ∧ H1.size = H.size ∧ ∀ q, q ≠ a → q ≠ e → H1[q]? = H[q]?
theorem El.upL {z : Zt} {U : State} (h : GV z U) {H H1 : Heap} {a : Nat} {fs : List Value} {e : va_E} (hq : c1 z a (.inr (2, fs)) H) (hu : Up z a e H H1) {y : Nat} (hy : El z H y) : El z H1 y := by
  rcases hy with ⟨gs, g⟩ | ⟨gs, g⟩ | g
  · exact Or.inl ⟨gs, g.up hu (fun hh => by subst hh; obtain ⟨r1, k1, cell1, j1, j2, -⟩ := g; obtain ⟨r2, k2, cell2, i1, i2, -⟩ := hq; rw [j1] at i1; cases i1; exact absurd (j2.symm.trans i2) (clne5 h))⟩
  · exact Or.inr (Or.inl ⟨gs, g.up hu (fun hh => by subst hh; obtain ⟨r1, k1, cell1, j1, j2, -⟩ := g; obtain ⟨r2, k2, cell2, i1, i2, -⟩ := hq; rw [j1] at i1; cases i1; exact absurd (j2.symm.trans i2) (clne6 h))⟩)
  · exact Or.inr (Or.inr g)

set_option maxHeartbeats 4000000 in
theorem m_J2_fastRemove (z : Zt) (l : Launch) {H : Heap} {a e n cap : Nat} {md : Int32} {f : Nat → Option Nat} (hq : c1 z a (.inr (2, [.int md, .ref e, .int (nI (n + 1))])) H) (hA : AA z a) (he : c1 z e (aQ z cap f) H) (hAe : AA z e) (hne : a ≠ e) (hnc : n + 1 ≤ cap) (hc : cap ≤ 34) (hf : ∀ i, n + 1 ≤ i → f i = none) (hE : Els z H f (n + 1)) : Kv z l yJ2_fastRemove cJ2_fastRemove 4 [.ref a, .ref e, .int 0] H 2 0 0 (fun H1 => RemR z a e (md + 1) n cap f H H1) := by
  refine en_Kv (own := RJ2) (by decide) rfl (Nat.le_of_ble_eq_true rfl) ?_
  intro ag pp ev sS mM below meth cd ls Q C hin hS hl hR
  have hx := C.1.1
  have hb := C.1.2.1
  have hl : lv_has ls 4 [(0, .ref a), (1, .ref e), (2, .int 0)] := hl
  refine lv_aload_n hx hb dJ2_fastRemove_0 rfl (lv_at hl 0 rfl) ?_
  refine lv_dup hx hb dJ2_fastRemove_1 rfl ?_
  refine gf_J2_63 C hq rfl dJ2_fastRemove_2 ?_
  refine lv_iconst (v := 1) hx hb dJ2_fastRemove_5 (by decide) ?_
  refine lv_iadd hx hb dJ2_fastRemove_6 ?_
  refine pf_J2_63 C hq (Nat.le_of_ble_eq_true rfl) rfl rfl hS hA dJ2_fastRemove_7 (fun H1 locs hu hS => ?_)
  have hu1 := hu
  have hq1 := hu1.1
  have he1 := he.up hu1 (Ne.symm hne)
  refine lv_aload_n hx hb dJ2_fastRemove_10 rfl (lv_at hl 0 rfl) ?_
  refine gf_J2_48 C hq1 rfl dJ2_fastRemove_11 ?_
  refine lv_iconst (v := 1) hx hb dJ2_fastRemove_14 (by decide) ?_
  refine lv_isub hx hb dJ2_fastRemove_15 ?_
  rw [nI_pred]
  refine lv_dup hx hb dJ2_fastRemove_16 rfl ?_
  refine lv_istore_n (lv' := [(3, _), (0, _), (1, _), (2, _)]) hx hb dJ2_fastRemove_17 rfl hl (by decide) rfl (fun ls hl => ?_)
  refine lv_iload_n hx hb dJ2_fastRemove_18 rfl (lv_at hl 3 rfl) ?_
  refine lv_icmp_le (tgt := 34) hx hb dJ2_fastRemove_19 (by decide) (fun c_19 => ?_) (fun c_19 => ?_)
  · skip
    have hn0 : n = 0 := by
      rcases Nat.eq_zero_or_pos n with h | h
      · exact h
      · exact absurd c_19 (nI_nle h (by omega))
    obtain ⟨g9, eg9⟩ : ∃ g, g = f := ⟨_, rfl⟩
    have hg9 : va_up g9 n none = fun i => f (i + 1) := by
      funext i
      subst eg9
      unfold va_up
      split
      · rw [hf (i + 1) (by omega)]
      · rw [hf i (by omega), hf (i + 1) (by omega)]
    have he9 : c1 z e (aQ z cap g9) H1 := by rw [eg9]; exact he1
    have hq9 := hq1
    obtain ⟨H2, eH2⟩ : ∃ h, h = H1 := ⟨_, rfl⟩
    have hz9 : H2.size = H.size := by rw [eH2]; exact hu1.2.1
    have ho9 : ∀ q, q ≠ a → q ≠ e → H2[q]? = H[q]? := fun q h1 h2 => by rw [eH2]; exact hu1.2.2 q h1
    rw [← eH2] at he9 hq9 hS ⊢
    have hfin : ∀ H3 H4, Up z a (.inr (2, [.int (md + 1), .ref e, .int (nI n)])) H2 H3 → Up z e (aQ z cap (va_up g9 n none)) H3 H4 → RemR z a e (md + 1) n cap f H H4 := fun H3 H4 v3 v4 => ⟨v3.1.up v4 hne, by rw [hg9] at v4; exact v4.1, by rw [v4.2.1, v3.2.1, hz9], fun q h1 h2 => by rw [v4.2.2 q h2, v3.2.2 q h1, ho9 q h1 h2]⟩
    refine lv_aload_n hx hb dJ2_fastRemove_34 rfl (lv_at hl 2 rfl) ?_
    refine lv_aload_n hx hb dJ2_fastRemove_35 rfl (lv_at hl 1 rfl) ?_
    refine lv_iload_n hx hb dJ2_fastRemove_36 rfl (lv_at hl 0 rfl) ?_
    refine lv_dup_x1 hx hb dJ2_fastRemove_37 rfl rfl ?_
    refine pf_J2_48 C hq9 (Nat.le_of_ble_eq_true rfl) rfl rfl hS hA dJ2_fastRemove_38 (fun H1 locs hu hS => ?_)
    have hu3 := hu
    refine lv_null hx hb dJ2_fastRemove_41 ?_
    refine g_qastN C (he9.up hu3 (Ne.symm hne)) (vp_in_nI (by omega) (by omega)) hS hAe dJ2_fastRemove_42 (fun H1 locs hu hS => ?_)
    rw [nI_clamp (by omega)] at hu
    exact hR _ _ _ _ _ _ dJ2_fastRemove_43 hS (by omega) (by omega) (hfin _ _ hu3 hu)
  · skip
    refine lv_aload_n hx hb dJ2_fastRemove_22 rfl (lv_at hl 2 rfl) ?_
    refine lv_iload_n hx hb dJ2_fastRemove_23 rfl (lv_at hl 3 rfl) ?_
    refine lv_iconst (v := 1) hx hb dJ2_fastRemove_24 (by decide) ?_
    refine lv_iadd hx hb dJ2_fastRemove_25 ?_
    refine lv_aload_n hx hb dJ2_fastRemove_26 rfl (lv_at hl 2 rfl) ?_
    refine lv_iload_n hx hb dJ2_fastRemove_27 rfl (lv_at hl 3 rfl) ?_
    refine lv_iload_n hx hb dJ2_fastRemove_28 rfl (lv_at hl 0 rfl) ?_
    refine lv_iload_n hx hb dJ2_fastRemove_29 rfl (lv_at hl 3 rfl) ?_
    refine lv_isub hx hb dJ2_fastRemove_30 ?_
    refine g_copyq C hl.1 (C.1.2.2.2.2 _ q672) he1 he1 (by decide) (by decide) (by rw [show nI n - 0 = nI n from by rw [← nI_0, pk_sub (by omega)]; rfl]; exact nI_pos (by omega)) (by rw [show nI n - 0 = nI n from by rw [← nI_0, pk_sub (by omega)]; rfl, nI_clamp (by omega)]; exact (show (0 + 1 : Int32).toNatClampNeg + n ≤ cap from by rw [show (0 + 1 : Int32).toNatClampNeg = 1 from by decide]; omega)) (by rw [show nI n - 0 = nI n from by rw [← nI_0, pk_sub (by omega)]; rfl, nI_clamp (by omega), c0]; omega) (fun i hi y hy => (El.upL C.2.1 hq hu1 (hE ((0 + 1 : Int32).toNatClampNeg + i) (by rw [show nI n - 0 = nI n from by rw [← nI_0, pk_sub (by omega)]; rfl, nI_clamp (by omega)] at hi; rw [show (0 + 1 : Int32).toNatClampNeg = 1 from by decide]; omega) y hy)).any C hS) hS hAe (Nat.le_of_ble_eq_true rfl) (Nat.le_of_ble_eq_true rfl) dJ2_fastRemove_31 (fun H1 locs hu hS => ?_)
    obtain ⟨g9, eg9⟩ : ∃ g, g = va_cpy f f (0 + 1 : Int32).toNatClampNeg (0 : Int32).toNatClampNeg (nI n - 0).toNatClampNeg := ⟨_, rfl⟩
    rw [← eg9] at hu
    have hg9 : va_up g9 n none = fun i => f (i + 1) := by
      funext i
      rw [eg9, show nI n - 0 = nI n from by rw [← nI_0, pk_sub (by omega)]; rfl, nI_clamp (by omega), c0, show (0 + 1 : Int32).toNatClampNeg = 1 from by decide]
      unfold va_up va_cpy
      by_cases h1 : i = n
      · rw [if_pos h1, hf (i + 1) (by omega)]
      · rw [if_neg h1]
        by_cases h2 : i < n
        · rw [if_pos ⟨Nat.zero_le _, by omega⟩]
          congr 1
          omega
        · rw [if_neg (by omega), hf i (by omega), hf (i + 1) (by omega)]
    have he9 := hu.1
    have hq9 := hq1.up hu hne
    obtain ⟨H2, eH2⟩ : ∃ h, h = H1 := ⟨_, rfl⟩
    have hz9 : H2.size = H.size := by rw [eH2, hu.2.1]; exact hu1.2.1
    have ho9 : ∀ q, q ≠ a → q ≠ e → H2[q]? = H[q]? := fun q h1 h2 => by rw [eH2, hu.2.2 q h2]; exact hu1.2.2 q h1
    rw [← eH2] at he9 hq9 hS ⊢
    have hfin : ∀ H3 H4, Up z a (.inr (2, [.int (md + 1), .ref e, .int (nI n)])) H2 H3 → Up z e (aQ z cap (va_up g9 n none)) H3 H4 → RemR z a e (md + 1) n cap f H H4 := fun H3 H4 v3 v4 => ⟨v3.1.up v4 hne, by rw [hg9] at v4; exact v4.1, by rw [v4.2.1, v3.2.1, hz9], fun q h1 h2 => by rw [v4.2.2 q h2, v3.2.2 q h1, ho9 q h1 h2]⟩
    refine lv_aload_n hx hb dJ2_fastRemove_34 rfl (lv_at hl 2 rfl) ?_
    refine lv_aload_n hx hb dJ2_fastRemove_35 rfl (lv_at hl 1 rfl) ?_
    refine lv_iload_n hx hb dJ2_fastRemove_36 rfl (lv_at hl 0 rfl) ?_
    refine lv_dup_x1 hx hb dJ2_fastRemove_37 rfl rfl ?_
    refine pf_J2_48 C hq9 (Nat.le_of_ble_eq_true rfl) rfl rfl hS hA dJ2_fastRemove_38 (fun H1 locs hu hS => ?_)
    have hu3 := hu
    refine lv_null hx hb dJ2_fastRemove_41 ?_
    refine g_qastN C (he9.up hu3 (Ne.symm hne)) (vp_in_nI (by omega) (by omega)) hS hAe dJ2_fastRemove_42 (fun H1 locs hu hS => ?_)
    rw [nI_clamp (by omega)] at hu
    exact hR _ _ _ _ _ _ dJ2_fastRemove_43 hS (by omega) (by omega) (hfin _ _ hu3 hu)

set_option maxHeartbeats 4000000 in
theorem m_J2_remove (z : Zt) (l : Launch) {H : Heap} {a e n cap : Nat} {md : Int32} {f : Nat → Option Nat} (hq : c1 z a (.inr (2, [.int md, .ref e, .int (nI (n + 1))])) H) (hA : AA z a) (he : c1 z e (aQ z cap f) H) (hAe : AA z e) (hne : a ≠ e) (hnc : n + 1 ≤ cap) (hc : cap ≤ 34) (hf : ∀ i, n + 1 ≤ i → f i = none) (hE : Els z H f (n + 1)) {x : Nat} (hx0 : f 0 = some x) : Kq z l yJ2_remove cJ2_remove 4 (.object "java/lang/Object") [.ref a, .int 0] H 3 0 0 (fun r H1 => r = some x ∧ RemR z a e (md + 1) n cap f H H1) := by
  refine en_Kq (own := RJ2) (by decide) rfl (Nat.le_of_ble_eq_true rfl) (Or.inl ⟨_, rfl⟩) ?_
  intro ag pp ev sS mM below meth cd ls Q C hS hl hR
  have hx := C.1.1
  have hb := C.1.2.1
  have hl : lv_has ls 4 [(0, .ref a), (1, .int 0)] := hl
  refine lv_iload_n hx hb dJ2_remove_0 rfl (lv_at hl 1 rfl) ?_
  refine lv_aload_n hx hb dJ2_remove_1 rfl (lv_at hl 0 rfl) ?_
  refine gf_J2_48 C hq rfl dJ2_remove_2 ?_
  refine cv_J2_118 C hS (m_J9_checkIndex z l (by decide) (by rw [← nI_0]; exact nI_lt (by omega) (by omega))) (Nat.le_of_ble_eq_true rfl) hl.1 (Nat.le_of_ble_eq_true rfl) (by omega) (by omega) dJ2_remove_5 (fun r_5 h_5 => ?_)
  refine lv_pop hx hb dJ2_remove_8 rfl ?_
  refine lv_aload_n hx hb dJ2_remove_9 rfl (lv_at hl 0 rfl) ?_
  refine gf_J2_9 C hq rfl dJ2_remove_10 ?_
  refine lv_astore_n (lv' := [(2, _), (0, _), (1, _)]) hx hb dJ2_remove_13 rfl hl (by decide) rfl (fun ls hl => ?_)
  refine lv_aload_n hx hb dJ2_remove_14 rfl (lv_at hl 0 rfl) ?_
  refine lv_iload_n hx hb dJ2_remove_15 rfl (lv_at hl 2 rfl) ?_
  refine g_qald C he (by rw [← nI_0]; exact vp_in_nI (by omega) (by omega)) dJ2_remove_16 ?_
  rw [c0, hx0]
  refine lv_astore_n (x := x) (lv' := [(3, _), (2, _), (0, _), (1, _)]) hx hb dJ2_remove_17 rfl hl (by decide) rfl (fun ls hl => ?_)
  refine lv_aload_n hx hb dJ2_remove_18 rfl (lv_at hl 2 rfl) ?_
  refine lv_aload_n hx hb dJ2_remove_19 rfl (lv_at hl 1 rfl) ?_
  refine lv_iload_n hx hb dJ2_remove_20 rfl (lv_at hl 3 rfl) ?_
  refine cv_J2_144 C hq hS (m_J2_fastRemove z l hq hA he hAe hne hnc hc hf hE) (Nat.le_of_ble_eq_true rfl) hl.1 (Nat.le_of_ble_eq_true rfl) (by omega) (by omega) dJ2_remove_21 (fun H1 locs h_21 hz_21 hS => ?_)
  refine lv_aload_n hx hb dJ2_remove_24 rfl (lv_at hl 0 rfl) ?_
  exact hR _ _ (some _) _ _ _ _ dJ2_remove_25 hS (by omega) (by omega) (⟨rfl, h_21⟩)

set_option maxHeartbeats 4000000 in
theorem m_J0_init (z : Zt) (l : Launch) {H : Heap} {a : Nat} {fs : List Value} (hq : c1 z a (.inr (2, fs)) H) : Kv z l yJ0_init cJ0_init 1 [.ref a] H 1 0 0 (fun H1 => H1 = H) := by
  refine en_Kv (own := RJ0) (by decide) rfl (Nat.le_of_ble_eq_true rfl) ?_
  intro ag pp ev sS mM below meth cd ls Q C hin hS hl hR
  have hx := C.1.1
  have hb := C.1.2.1
  have hl : lv_has ls 1 [(0, .ref a)] := hl
  refine lv_aload_n hx hb dJ0_init_0 rfl (lv_at hl 0 rfl) ?_
  refine r_objInit C (C.1.2.2.2.2 _ q88) (Nat.le_of_ble_eq_true rfl) hl.1 (Nat.le_of_ble_eq_true rfl) dJ0_init_1 ?_
  exact hR _ _ _ _ _ _ dJ0_init_4 hS (by omega) (by omega) (rfl)

set_option maxHeartbeats 4000000 in
theorem m_J1_init (z : Zt) (l : Launch) {H : Heap} {a e : Nat} {md : Int32} {v w : Value} (hq : c1 z a (.inr (2, [.int md, v, w])) H) (hA : AA z a) : Kv z l yJ1_init cJ1_init 1 [.ref a] H 2 0 0 (fun H1 => Up z a (.inr (2, [.int 0, v, w])) H H1) := by
  refine en_Kv (own := RJ1) (by decide) rfl (Nat.le_of_ble_eq_true rfl) ?_
  intro ag pp ev sS mM below meth cd ls Q C hin hS hl hR
  have hx := C.1.1
  have hb := C.1.2.1
  have hl : lv_has ls 1 [(0, .ref a)] := hl
  refine lv_aload_n hx hb dJ1_init_0 rfl (lv_at hl 0 rfl) ?_
  refine cv_J1_1 C hS (m_J0_init z l hq) (Nat.le_of_ble_eq_true rfl) hl.1 (Nat.le_of_ble_eq_true rfl) (by omega) (by omega) dJ1_init_1 (fun H1 locs h_1 hz_1 hS => ?_)
  rw [h_1] at hS ⊢
  refine lv_aload_n hx hb dJ1_init_4 rfl (lv_at hl 0 rfl) ?_
  refine lv_iconst (v := 0) hx hb dJ1_init_5 (by decide) ?_
  refine pf_J1_7 C hq (Nat.le_of_ble_eq_true rfl) rfl rfl hS hA dJ1_init_6 (fun H1 locs hu hS => ?_)
  exact hR _ _ _ _ _ _ dJ1_init_9 hS (by omega) (by omega) (hu)

set_option maxHeartbeats 4000000 in
theorem m_J2_init (z : Zt) (l : Launch) {H : Heap} {a : Nat} (hq : c1 z a (.inr (2, [.int 0, .null, .int 0])) H) (hA : AA z a) : Kv z l yJ2_init cJ2_init 1 [.ref a] H 3 0 0 (fun H1 => Up z a (.inr (2, [.int 0, .ref (zs z 0), .int (nI 0)])) H H1) := by
  refine en_Kv (own := RJ2) (by decide) rfl (Nat.le_of_ble_eq_true rfl) ?_
  intro ag pp ev sS mM below meth cd ls Q C hin hS hl hR
  have hx := C.1.1
  have hb := C.1.2.1
  have hl : lv_has ls 1 [(0, .ref a)] := hl
  refine lv_aload_n hx hb dJ2_init_0 rfl (lv_at hl 0 rfl) ?_
  refine cv_J2_1 C hS (m_J1_init z l (e := 0) hq hA) (Nat.le_of_ble_eq_true rfl) hl.1 (Nat.le_of_ble_eq_true rfl) (by omega) (by omega) dJ2_init_1 (fun H1 locs h_1 hz_1 hS => ?_)
  refine lv_aload_n hx hb dJ2_init_4 rfl (lv_at hl 0 rfl) ?_
  refine va_gets hx hb C.zDE hS C.1.2.2.2.1 (C.1.2.2.2.2 _ q89) (fun _ h => h) dJ2_init_5 ?_
  refine pf_J2_9 C h_1.1 (Nat.le_of_ble_eq_true rfl) rfl rfl hS hA dJ2_init_8 (fun H1 locs hu hS => ?_)
  exact hR _ _ _ _ _ _ dJ2_init_11 hS (by omega) (by omega) (⟨hu.1, by rw [hu.2.1, h_1.2.1], fun q h => by rw [hu.2.2 q h, h_1.2.2 q h]⟩)

set_option maxHeartbeats 4000000 in
theorem m_J2_clear (z : Zt) (l : Launch) {H : Heap} {a e n cap : Nat} {md : Int32} {f : Nat → Option Nat} (hq : c1 z a (.inr (2, [.int md, .ref e, .int (nI n)])) H) (hA : AA z a) (hL : (cap = 0 ∧ e = zs z 0) ∨ (0 < cap ∧ c1 z e (aQ z cap f) H)) (hAe : 0 < cap → AA z e) (hne : a ≠ e) (hnc : n ≤ cap) (hc : cap ≤ 34) (hf : ∀ i, n ≤ i → f i = none) : Kv z l yJ2_clear cJ2_clear 4 [.ref a] H 1 0 0 (fun H1 => c1 z a (.inr (2, [.int (md + 1), .ref e, .int (nI 0)])) H1 ∧ (0 < cap → c1 z e (aQ z cap (fun _ => none)) H1) ∧ H1.size = H.size ∧ ∀ q, q ≠ a → q ≠ e → H1[q]? = H[q]?) := by
  refine en_Kv (own := RJ2) (by decide) rfl (Nat.le_of_ble_eq_true rfl) ?_
  intro ag pp ev sS mM below meth cd ls Q C hin hS hl hR
  have hx := C.1.1
  have hb := C.1.2.1
  have hl : lv_has ls 4 [(0, .ref a)] := hl
  refine lv_aload_n hx hb dJ2_clear_0 rfl (lv_at hl 0 rfl) ?_
  refine lv_dup hx hb dJ2_clear_1 rfl ?_
  refine gf_J2_63 C hq rfl dJ2_clear_2 ?_
  refine lv_iconst (v := 1) hx hb dJ2_clear_5 (by decide) ?_
  refine lv_iadd hx hb dJ2_clear_6 ?_
  refine pf_J2_63 C hq (Nat.le_of_ble_eq_true rfl) rfl rfl hS hA dJ2_clear_7 (fun H1 locs hu hS => ?_)
  have hu1 := hu
  have hq1 := hu1.1
  refine lv_aload_n hx hb dJ2_clear_10 rfl (lv_at hl 0 rfl) ?_
  refine gf_J2_9 C hq1 rfl dJ2_clear_11 ?_
  refine lv_astore_n (lv' := [(1, _), (0, _)]) hx hb dJ2_clear_14 rfl hl (by decide) rfl (fun ls hl => ?_)
  refine lv_aload_n hx hb dJ2_clear_15 rfl (lv_at hl 1 rfl) ?_
  refine gf_J2_48 C hq1 rfl dJ2_clear_16 ?_
  refine lv_istore_n (lv' := [(2, _), (1, _), (0, _)]) hx hb dJ2_clear_19 rfl hl (by decide) rfl (fun ls hl => ?_)
  refine lv_aload_n hx hb dJ2_clear_20 rfl (lv_at hl 2 rfl) ?_
  refine lv_iconst (v := 0) hx hb dJ2_clear_21 (by decide) ?_
  refine lv_dup_x1 hx hb dJ2_clear_22 rfl rfl ?_
  refine pf_J2_48 C hq1 (Nat.le_of_ble_eq_true rfl) rfl rfl hS hA dJ2_clear_23 (fun H1 locs hu hS => ?_)
  have hu2 := hu
  have he2 : 0 < cap → c1 z e (aQ z cap f) H1 := fun h0 => by
    rcases hL with ⟨h, -⟩ | ⟨-, h⟩
    · omega
    · exact (h.up hu1 (Ne.symm hne)).up hu2 (Ne.symm hne)
  obtain ⟨H2, eH2⟩ : ∃ h, h = H1 := ⟨_, rfl⟩
  have hz9 : H2.size = H.size := by rw [eH2, hu2.2.1, hu1.2.1]
  have ho9 : ∀ q, q ≠ a → q ≠ e → H2[q]? = H[q]? := fun q h1 h2 => by rw [eH2, hu2.2.2 q h1, hu1.2.2 q h1]
  have hq2 := hu2.1
  rw [← eH2] at he2 hq2 hS ⊢
  refine lv_istore_n (lv' := [(3, _), (2, _), (1, _), (0, _)]) hx hb dJ2_clear_26 rfl hl (by decide) rfl (fun ls hl => ?_)
  have L27 : ∀ (k9 : Nat) (i : Nat) (H3 : Heap) (locs : List Loc) (ls : Array Slot), i ≤ n → n + 1 ≤ i + k9 → c1 z a (.inr (2, [.int (md + 1), .ref e, .int (nI 0)])) H3 → (0 < cap → c1 z e (aQ z cap (fun j => if j < i then none else f j)) H3) → H3.size = H2.size → (∀ q, q ≠ a → q ≠ e → H3[q]? = H2[q]?) → va_S (AA z) sS.heap H3 locs → lv_has ls 4 [(3, .int (nI i)), (2, .int (nI n)), (1, .ref e), (0, .ref a)] → W pp l ev (RL 1 0 0) sS mM ag below meth cd H3 locs 0 0 Q (F0 mM 27 ls []) := by
    intro k9
    induction k9 with
    | zero =>
      intro i H3 locs ls hi hk g1 g2 g3 g4 hS hl
      omega
    | succ k9 ih =>
      intro i H3 locs ls hi hk g1 g2 g3 g4 hS hl
      refine lv_iload_n hx hb dJ2_clear_27 rfl (lv_at hl 0 rfl) ?_
      refine lv_iload_n hx hb dJ2_clear_28 rfl (lv_at hl 1 rfl) ?_
      refine lv_icmp_ge (tgt := 42) hx hb dJ2_clear_29 (by decide) (fun c_29 => ?_) (fun c_29 => ?_)
      · skip
        have hin : i = n := Nat.le_antisymm hi (Nat.not_lt.mp (fun h => absurd c_29 (nI_ge h (by omega))))
        exact hR _ _ _ _ _ _ dJ2_clear_42 hS (by omega) (by omega) (⟨g1, fun h => by
    have h9 := g2 h
    have e9 : (fun j => if j < i then none else f j) = fun _ => none := by
      funext j
      split
      · rfl
      · exact hf j (by omega)
    rw [e9] at h9
    exact h9, by rw [g3, hz9], fun q h1 h2 => by rw [g4 q h1 h2, ho9 q h1 h2]⟩)
      · skip
        have hlt : i < n := Nat.not_le.mp (fun h => c_29 (nI_le h (by omega)))
        refine lv_aload_n hx hb dJ2_clear_32 rfl (lv_at hl 2 rfl) ?_
        refine lv_iload_n hx hb dJ2_clear_33 rfl (lv_at hl 0 rfl) ?_
        refine lv_null hx hb dJ2_clear_34 ?_
        refine g_qastN C (g2 (by omega)) (vp_in_nI (by omega) (by omega)) hS (hAe (by omega)) dJ2_clear_35 (fun H1 locs hu hS => ?_)
        refine lv_iinc (lv' := [(3, _), (2, _), (1, _), (0, _)]) hx hb dJ2_clear_36 hl (k := 0) rfl rfl (by decide) rfl (fun ls hl => ?_)
        refine lv_goto (tgt := 27) hx hb dJ2_clear_39 (by decide) ?_
        exact ih (i + 1) H1 locs _ (by omega) (by omega) (g1.up hu hne) (fun _ => by
            have h9 := hu.1
            rw [nI_clamp (by omega)] at h9
            have e9 : va_up (fun j => if j < i then none else f j) i none = fun j => if j < i + 1 then none else f j := by
              funext j
              show (if j = i then none else if j < i then none else f j) = if j < i + 1 then none else f j
              by_cases h1 : j = i
              · rw [if_pos h1, if_pos (by omega)]
              · rw [if_neg h1]
                by_cases h2 : j < i
                · rw [if_pos h2, if_pos (by omega)]
                · rw [if_neg h2, if_neg (by omega)]
            rw [e9] at h9
            exact h9) (by rw [hu.2.1, g3]) (fun q h1 h2 => by rw [hu.2.2 q h2, g4 q h1 h2]) hS (by rw [← nI_1]; exact hl)
  exact L27 (n + 1) 0 H2 _ _ (by omega) (by omega) hq2 (fun h => by simpa using he2 h) rfl (fun q _ _ => rfl) hS (by rw [nI_0]; exact hl)

