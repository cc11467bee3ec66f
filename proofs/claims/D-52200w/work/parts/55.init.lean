set_option maxRecDepth 100000
def meF (st : St) : UInt64 := if coF st 4 = 0 then FP.dconst0 else FP.ddiv (FP.i2d (coF st 5)) (FP.i2d (coF st 4))
def meC : Bool := (List.range 55).all fun i => (List.range 6).all fun j => decide (FP.ddiv (FP.i2d (nI i)) (FP.i2d (nI (j + 1))) &&& 0x7fffffffffffffff ≤ 0x7ff0000000000000)
theorem meC_ok : meC = true := by decide +kernel
theorem sum_bd {f : Nat → Int32} {b : Nat} : ∀ n, n * b < 2 ^ 29 → (∀ k, k < n → Bd (f k) (b + 1)) → Bd (sumTo f n) (n * b + 1)
  | 0, _, _ => ⟨0, by omega, rfl⟩
  | n + 1, hb, h => by
    have hm : (n + 1) * b = n * b + b := Nat.succ_mul n b
    obtain ⟨i, hi, e1⟩ := sum_bd (f := f) (b := b) n (by omega) (fun k hk => h k (by omega))
    obtain ⟨j, hj, e2⟩ := h n (by omega)
    refine ⟨i + j, by omega, ?_⟩
    show sumTo f n + f n = _
    rw [e1, e2]
    unfold nI
    rw [Int32.ofNat_add]
theorem me_ok {st : St} (h : Inv st) (h0 : ¬ coF st 4 = 0) : vf_n64 (FP.ddiv (FP.i2d (coF st 5)) (FP.i2d (coF st 4))) := by
  have hn := h.1.2.1
  have b5 := sum_bd (f := st 2) (b := 9) (nC st) (by omega) (fun k hk => (h.2.2.1 k hk).2.1)
  have b4 := sum_bd (f := fun c => bI (decide (0 < st 2 c))) (b := 1) (nC st) (by omega) (fun k _ => by
    show Bd (bI _) 2
    cases decide (0 < st 2 k)
    · exact ⟨0, by omega, rfl⟩
    · exact ⟨1, by omega, rfl⟩)
  obtain ⟨i, hi, e5⟩ := b5
  obtain ⟨j, hj, e4⟩ := b4
  have e5 : coF st 5 = nI i := e5
  have e4 : coF st 4 = nI j := e4
  have hj0 : j ≠ 0 := fun g => h0 (by rw [e4, g]; rfl)
  have h1 := List.all_eq_true.mp meC_ok i (List.mem_range.mpr (by omega))
  have h2 := List.all_eq_true.mp h1 (j - 1) (List.mem_range.mpr (by omega))
  rw [show j - 1 + 1 = j by omega] at h2
  rw [e4, e5]
  unfold vf_n64
  exact of_decide_eq_true h2

set_option maxHeartbeats 4000000 in
theorem m_X1_mean (z : Zt) (l : Launch) {H : Heap} {F : Nat → Prop} {ad : Nat → Nat → Nat} {st : St} {gh : Gh} (hQ : QW z F ad st gh H) {a : Nat} (hx9 : c1 z a (.inr (0, [.ref (ad 0 0)])) H) : Kd z l yX1_mean cX1_mean 1 .double [.ref a] H 5 0 0 (fun r H1 => r = meF st ∧ H1 = H) := by
  refine en_Kd rfl (own := RX1) (by decide) rfl (Nat.le_of_ble_eq_true rfl) ?_
  intro ag pp ev sS mM below meth cd ls Q C hS hl hR
  have hx := C.1.1
  have hb := C.1.2.1
  have hl : lv_has ls 1 [(0, .ref a)] := hl
  refine lv_aload_n hx hb dX1_mean_0 rfl (lv_at hl 0 rfl) ?_
  refine gf_X1_39 C hx9 rfl dX1_mean_1 ?_
  refine cv_X1_163 C hQ.q hS (m_X2_crowdsThere z l hQ) (Nat.le_of_ble_eq_true rfl) hl.1 (Nat.le_of_ble_eq_true rfl) (by omega) (by omega) dX1_mean_4 (fun r_4 h_4 => ?_)
  subst h_4
  refine lv_seti (y := coF st 4) rfl ?_
  refine lv_if_ne (tgt := 14) hx hb dX1_mean_7 (by decide) (fun c_7 => ?_) (fun c_7 => ?_)
  · skip
    refine lv_aload_n hx hb dX1_mean_14 rfl (lv_at hl 0 rfl) ?_
    refine gf_X1_39 C hx9 rfl dX1_mean_15 ?_
    refine cv_X1_166 C hQ.q hS (m_X2_people z l hQ) (Nat.le_of_ble_eq_true rfl) hl.1 (Nat.le_of_ble_eq_true rfl) (by omega) (by omega) dX1_mean_18 (fun r_18 h_18 => ?_)
    subst h_18
    refine lv_seti (y := coF st 5) rfl ?_
    refine lv_i2d hx hb dX1_mean_21 ?_
    refine lv_aload_n hx hb dX1_mean_22 rfl (lv_at hl 0 rfl) ?_
    refine gf_X1_39 C hx9 rfl dX1_mean_23 ?_
    refine cv_X1_163 C hQ.q hS (m_X2_crowdsThere z l hQ) (Nat.le_of_ble_eq_true rfl) hl.1 (Nat.le_of_ble_eq_true rfl) (by omega) (by omega) dX1_mean_26 (fun r_26 h_26 => ?_)
    subst h_26
    refine lv_seti (y := coF st 4) rfl ?_
    refine lv_i2d hx hb dX1_mean_29 ?_
    refine lv_ddiv hx hb dX1_mean_30 (me_ok hQ.inv c_7) ?_
    exact hR _ _ _ _ _ _ _ dX1_mean_31 hS (by omega) (by omega) (⟨by unfold meF; first | rw [if_neg c_7] | rw [if_pos c_7], rfl⟩)
  · skip
    refine lv_dconst0 hx hb dX1_mean_10 ?_
    refine lv_goto (tgt := 31) hx hb dX1_mean_11 (by decide) ?_
    exact hR _ _ _ _ _ _ _ dX1_mean_31 hS (by omega) (by omega) (⟨by unfold meF; first | rw [if_neg c_7] | rw [if_pos c_7], rfl⟩)

def stZ : St := fun _ _ => 0
theorem Inv.z : Inv stZ := ⟨⟨rfl, by decide, rfl, by decide⟩, fun k _ => ⟨1, by omega, rfl⟩, fun c hc => absurd hc (Nat.not_lt_zero _), fun p hp => absurd hp (Nat.not_lt_zero _), fun _ _ => ⟨rfl, rfl⟩, fun _ _ => rfl⟩

set_option maxHeartbeats 4000000 in
theorem m_X1_init (z : Zt) (l : Launch) {H : Heap} {a : Nat} (hq : c1 z a (.inr (0, [.null])) H) (hA : AA z a) : Kv z l yX1_init cX1_init 1 [.ref a] H 5 4 118 (fun H1 => c1 z a (.inr (0, [.ref H.size])) H1 ∧ QW z (fun q => H.size ≤ q) (ad0 H.size (H.size + 1)) stZ (fun _ => 0, fun _ => 0) H1 ∧ ∀ q, q < H.size → q ≠ a → H1[q]? = H[q]?) := by
  refine en_Kv (own := RX1) (by decide) rfl (Nat.le_of_ble_eq_true rfl) ?_
  intro ag pp ev sS mM below meth cd ls Q C hin hS hl hR
  have hx := C.1.1
  have hb := C.1.2.1
  have hl : lv_has ls 1 [(0, .ref a)] := hl
  have hlt := hq.lt
  have hA0 : AA z H.size := (C.2.2.1.S hS).1
  refine lv_aload_n hx hb dX1_init_0 rfl (lv_at hl 0 rfl) ?_
  refine r_objInit C (C.1.2.2.2.2 _ q68) (Nat.le_of_ble_eq_true rfl) hl.1 (Nat.le_of_ble_eq_true rfl) dX1_init_1 ?_
  refine lv_aload_n hx hb dX1_init_4 rfl (lv_at hl 0 rfl) ?_
  refine r_new (ci := 1) (fs := [.int 0, .null, .null, .null]) (C := RX2) (T := TX2) (N := 4) C in_X2 tyX2 tyX2_ok (C.1.2.2.2.2 _ q71) (C.1.2.2.2.2 _ q72) (C.1.2.2.2.2 _ q38) rfl (fun j hj => by rcases (show j = 0 ∨ j = 1 ∨ j = 2 ∨ j = 3 by omega) with rfl | rfl | rfl | rfl <;> rfl) hS (by omega) (by omega) dX1_init_5 (fun H1 hn hS => ?_)
  have hn1 := hn
  have s1 := hn1.2.1
  refine lv_dup hx hb dX1_init_8 rfl ?_
  refine cv_X1_38 C hS (m_X2_init z l hn1.1 hA0) (Nat.le_of_ble_eq_true rfl) hl.1 (Nat.le_of_ble_eq_true rfl) (by omega) (by omega) dX1_init_9 (fun H1 locs h_9 hz_9 hS => ?_)
  obtain ⟨y1, y2, y3, y4, y5, y6⟩ := h_9
  rw [s1] at y1 y2 y3 y4 y5
  have hq2 := hq.kept (by rw [y6 a (by omega) (by omega), hn1.2.2 a hlt] : H1[a]? = H[a]?)
  refine pf_X1_39 C hin hq2 (Nat.le_of_ble_eq_true rfl) rfl rfl hS hA dX1_init_12 (fun H1 locs hu hS => ?_)
  have hu1 := hu
  exact hR _ _ _ _ _ _ dX1_init_15 hS (by omega) (by omega) (⟨hu1.1, QW.zero rfl rfl Inv.z hA0 (Nat.le_succ_of_le hA0) (by omega) (fun q hq => hq.elim (fun e => by rw [e]; exact Nat.le_refl _) (fun g => by show H.size ≤ q; omega)) (y1.up hu1 (by omega)) (y2.up hu1 (by omega)) (y3.up hu1 (by omega)) (y4.up hu1 (by omega)), fun q h1 h2 => by rw [hu1.2.2 q h2, y6 q (by omega) (by omega), hn1.2.2 q h1]⟩)

