set_option maxRecDepth 100000
theorem El.ext {z : Zt} {H H1 : Heap} {a : Nat} (h : El z H a) (g : Ext H H1) : El z H1 a := by
  rcases h with ⟨fs, h⟩ | ⟨fs, h⟩ | h
  · exact Or.inl ⟨fs, h.ext g⟩
  · exact Or.inr (Or.inl ⟨fs, h.ext g⟩)
  · exact Or.inr (Or.inr h)
/-- every element below n may stand in a list -/
def Els (z : Zt) (H : Heap) (f : Nat → Option Nat) (n : Nat) : Prop := ∀ i, i < n → ∀ y, f i = some y → El z H y
theorem mn_le {a b : Nat} (h : a ≤ b) (hb : b < 2 ^ 31) : mn (nI a) (nI b) = nI a := by
  unfold mn
  rw [if_neg (nI_nlt h hb)]
theorem shr1 {n : Nat} (h : n < 2 ^ 31) : nI n >>> ((1 : Int32) &&& 31) = nI (n / 2) := pk_shrN h _ 1 (by decide)
theorem gN_le {cap : Nat} (h : cap ≤ 23) : gN cap ≤ 34 := by
  unfold gN
  split
  · omega
  · split <;> omega
theorem gN_lt {cap : Nat} : cap < gN cap := by
  unfold gN
  split
  · omega
  · split <;> omega
def GrowR (z : Zt) (a : Nat) (md : Int32) (n cap : Nat) (f : Nat → Option Nat) (H H1 : Heap) : Prop := H1.size = H.size + 1 ∧ c1 z H.size (aQ z (gN cap) (fun i => if i < cap then f i else none)) H1 ∧ c1 z a (.inr (2, [.int md, .ref H.size, .int (nI n)])) H1 ∧ ∀ q, q < H.size → q ≠ a → H1[q]? = H[q]?

set_option maxHeartbeats 4000000 in
theorem m_J13_newLength (z : Zt) (l : Launch) {H : Heap} {x y w : Int32} {cap : Nat} (hc : cap ≤ 100) (h0 : 0 < cap) (ex : x = nI cap) (ey : y = nI 1) (ew : w = nI (cap / 2)) : Ri z l yJ13_newLength cJ13_newLength 4 .int [.int x, .int y, .int w] H 2 (fun r => r = nI (gN cap)) := by
  refine en_Ri (own := RJ13) (by decide) rfl (Nat.le_of_ble_eq_true rfl) ?_
  intro ag pp ev sS mM below meth cd ls Q C hS hl hR
  have hx := C.1.1
  have hb := C.1.2.1
  have hl : lv_has ls 4 [(0, .int x), (1, .int y), (2, .int w)] := hl
  subst ex; subst ey; subst ew
  have hg : nI cap + mx (nI 1) (nI (cap / 2)) = nI (gN cap) := by
    unfold mx gN
    rw [if_neg (by omega : ¬ cap = 0)]
    by_cases h : cap / 2 ≤ 1
    · rw [if_neg (nI_nlt h (by omega)), if_pos h, nI_add]
    · rw [if_pos (nI_lt (by omega) (by omega)), if_neg h, nI_add]
  have hb1 : gN cap < 200 := by
    unfold gN
    split
    · omega
    · split <;> omega
  have hb0 : 0 < gN cap := Nat.lt_trans h0 gN_lt
  refine lv_iload_n hx hb dJ13_newLength_0 rfl (lv_at hl 0 rfl) ?_
  refine lv_iload_n hx hb dJ13_newLength_1 rfl (lv_at hl 1 rfl) ?_
  refine lv_iload_n hx hb dJ13_newLength_2 rfl (lv_at hl 2 rfl) ?_
  refine g_max C (C.1.2.2.2.2 _ q490) (Nat.le_of_ble_eq_true rfl) hl.1 (Nat.le_of_ble_eq_true rfl) (by omega) (by omega) dJ13_newLength_3 ?_
  refine lv_iadd hx hb dJ13_newLength_6 ?_
  rw [hg]
  refine lv_istore_n (lv' := [(3, _), (0, _), (1, _), (2, _)]) hx hb dJ13_newLength_7 rfl hl (by decide) rfl (fun ls hl => ?_)
  refine lv_iconst (v := 0) hx hb dJ13_newLength_8 (by decide) ?_
  refine lv_iload_n hx hb dJ13_newLength_9 rfl (lv_at hl 0 rfl) ?_
  refine lv_icmp_ge (tgt := 21) hx hb dJ13_newLength_10 (by decide) (fun c_10 => ?_) (fun c_10 => ?_)
  · skip
    exact absurd c_10 (nI_nle hb0 (by omega))
  · skip
    refine lv_iload_n hx hb dJ13_newLength_13 rfl (lv_at hl 0 rfl) ?_
    refine lv_ldc hx hb C.1.2.2.2.1 (C.1.2.2.2.2 _ q491) dJ13_newLength_14 ?_
    refine lv_icmp_gt (tgt := 21) hx hb dJ13_newLength_16 (by decide) (fun c_16 => ?_) (fun c_16 => ?_)
    · skip
      exact absurd c_16 (by rw [Int32.lt_iff_toInt_lt, nI_toInt (by omega)]; simp; omega)
    · skip
      refine lv_iload_n hx hb dJ13_newLength_19 rfl (lv_at hl 0 rfl) ?_
      exact hR _ _ _ dJ13_newLength_20 rfl (rfl)

set_option maxHeartbeats 4000000 in
theorem m_J15_copyOf_2 (z : Zt) (l : Launch) {H : Heap} {a n1 n2 : Nat} {f : Nat → Option Nat} (ha : c1 z a (aQ z n1 f) H) (h12 : n1 ≤ n2) (h2 : n2 ≤ 34) (hE : Els z H f n1) : Kq z l yJ15_copyOf_2 cJ15_copyOf_2 4 (.array (.object "java/lang/Object")) [.ref a, .int (nI n2), .ref (zs z 4)] H 2 1 34 (fun r H1 => r = some H.size ∧ New z (aQ z n2 (fun i => if i < n1 then f i else none)) H H1) := by
  refine en_Kq (own := RJ15) (by decide) rfl (Nat.le_of_ble_eq_true rfl) (Or.inr ⟨_, rfl⟩) ?_
  intro ag pp ev sS mM below meth cd ls Q C hS hl hR
  have hx := C.1.1
  have hb := C.1.2.1
  have hl : lv_has ls 4 [(0, .ref a), (1, .int (nI n2)), (2, .ref (zs z 4))] := hl
  have hS0 := hS
  refine lv_aload_n hx hb dJ15_copyOf_2_0 rfl (lv_at hl 2 rfl) ?_
  refine va_ldcM hx hb C.1.2.2.2.1 (C.1.2.2.2.2 _ q517) C.zMI dJ15_copyOf_2_1 ?_
  refine lv_acmp_ne (tgt := 13) (rx := some (zs z 4)) (ry := some (zs z 4)) hx hb dJ15_copyOf_2_3 (by decide) (fun c_3 => ?_) (fun c_3 => ?_)
  · skip
    exact absurd rfl c_3
  · skip
    refine lv_iload_n hx hb dJ15_copyOf_2_6 rfl (lv_at hl 1 rfl) ?_
    refine r_newq C (C.1.2.2.2.2 _ q519) (nI_pos (by omega)) (nI_clamp (by omega)) (by omega) hS (by omega) (by omega) dJ15_copyOf_2_7 (fun H1 hn hS => ?_)
    refine lv_goto (tgt := 24) hx hb dJ15_copyOf_2_10 (by decide) ?_
    refine lv_astore_n (lv' := [(3, _), (0, _), (1, _), (2, _)]) hx hb dJ15_copyOf_2_24 rfl hl (by decide) rfl (fun ls hl => ?_)
    refine lv_aload_n hx hb dJ15_copyOf_2_25 rfl (lv_at hl 1 rfl) ?_
    refine lv_iconst (v := 0) hx hb dJ15_copyOf_2_26 (by decide) ?_
    refine lv_aload_n hx hb dJ15_copyOf_2_27 rfl (lv_at hl 0 rfl) ?_
    refine lv_iconst (v := 0) hx hb dJ15_copyOf_2_28 (by decide) ?_
    refine lv_aload_n hx hb dJ15_copyOf_2_29 rfl (lv_at hl 1 rfl) ?_
    refine g_qalen C (ha.ext hn.ext) dJ15_copyOf_2_30 ?_
    refine lv_iload_n hx hb dJ15_copyOf_2_31 rfl (lv_at hl 2 rfl) ?_
    refine g_min C (C.1.2.2.2.2 _ q520) (Nat.le_of_ble_eq_true rfl) hl.1 (Nat.le_of_ble_eq_true rfl) (by omega) (by omega) dJ15_copyOf_2_32 ?_
    rw [mn_le h12 (by omega)]
    refine g_copyq C hl.1 (C.1.2.2.2.2 _ q521) (ha.ext hn.ext) hn.1 (by decide) (by decide) (nI_pos (by omega)) (by rw [nI_clamp (by omega)]; simp) (by rw [nI_clamp (by omega)]; simp; omega) (fun i hi y hy => ((hE i (by rw [nI_clamp (by omega)] at hi; exact hi) y (by simpa using hy)).ext hn.ext).any C hS) hS (show (zH z).size ≤ H.size from (C.2.2.1.S hS0).1) (Nat.le_of_ble_eq_true rfl) (Nat.le_of_ble_eq_true rfl) dJ15_copyOf_2_35 (fun H1 locs hu hS => ?_)
    have hsz := hn.2.1
    have hNw : New z (aQ z n2 (fun i => if i < n1 then f i else none)) H H1 := ⟨by
        have e : va_cpy f (fun _ => none) (0 : Int32).toNatClampNeg (0 : Int32).toNatClampNeg (nI n1).toNatClampNeg = fun i => if i < n1 then f i else none := by
          funext i
          rw [nI_clamp (by omega)]
          simp [va_cpy]
        have h9 := hu.1
        rw [e] at h9
        exact h9, by rw [hu.2.1, hsz], fun q hq => by rw [hu.2.2 q (by omega), hn.2.2 q hq]⟩
    refine lv_aload_n hx hb dJ15_copyOf_2_38 rfl (lv_at hl 0 rfl) ?_
    exact hR _ _ (some _) _ _ _ _ dJ15_copyOf_2_39 hS (by omega) (by omega) (⟨rfl, hNw⟩)

set_option maxHeartbeats 4000000 in
theorem m_J15_copyOf (z : Zt) (l : Launch) {H : Heap} {a n1 n2 : Nat} {f : Nat → Option Nat} (ha : c1 z a (aQ z n1 f) H) (h12 : n1 ≤ n2) (h2 : n2 ≤ 34) (hE : Els z H f n1) : Kq z l yJ15_copyOf cJ15_copyOf 2 (.array (.object "java/lang/Object")) [.ref a, .int (nI n2)] H 3 1 34 (fun r H1 => r = some H.size ∧ New z (aQ z n2 (fun i => if i < n1 then f i else none)) H H1) := by
  refine en_Kq (own := RJ15) (by decide) rfl (Nat.le_of_ble_eq_true rfl) (Or.inr ⟨_, rfl⟩) ?_
  intro ag pp ev sS mM below meth cd ls Q C hS hl hR
  have hx := C.1.1
  have hb := C.1.2.1
  have hl : lv_has ls 2 [(0, .ref a), (1, .int (nI n2))] := hl
  refine lv_aload_n hx hb dJ15_copyOf_0 rfl (lv_at hl 0 rfl) ?_
  refine lv_iload_n hx hb dJ15_copyOf_1 rfl (lv_at hl 1 rfl) ?_
  refine lv_aload_n hx hb dJ15_copyOf_2 rfl (lv_at hl 0 rfl) ?_
  refine va_getC (C := "[Ljava/lang/Object;") hx hb (C.1.2.2.1.trans hl.1.symm) C.1.2.2.2.1 (C.1.2.2.2.2 _ q498) (va_Dc.use C.zDC) (C.1.2.2.2.2 _ q1057) (C.1.2.2.2.2 _ q499) (C.1.2.2.2.2 _ q513) C.zMI (C.recvQ ha) (Nat.le_of_ble_eq_true rfl) (Nat.le_of_ble_eq_true rfl) dJ15_copyOf_3 ?_
  refine cv_J15_300 C hS (m_J15_copyOf_2 z l ha h12 h2 hE) (Nat.le_of_ble_eq_true rfl) hl.1 (Nat.le_of_ble_eq_true rfl) (by omega) (by omega) dJ15_copyOf_6 (fun r_6 H1 locs h_6 hz_6 hS => ?_)
  exact hR _ _ _ _ _ _ _ dJ15_copyOf_9 hS (by omega) (by omega) (h_6)

set_option maxHeartbeats 4000000 in
theorem m_grow_p (z : Zt) (l : Launch) {H : Heap} {a e n : Nat} {md : Int32} (hq : c1 z a (.inr (2, [.int md, .ref e, .int (nI n)])) H) (hA : AA z a) {f : Nat → Option Nat} (he : c1 z e (aQ z n f) H) (h0 : 0 < n) (hn : n ≤ 23) (hE : Els z H f n) : Kq z l yJ2_grow_2 cJ2_grow_2 4 (.array (.object "java/lang/Object")) [.ref a, .int (nI (n + 1))] H 4 1 34 (fun r H1 => r = some H.size ∧ GrowR z a md n n f H H1) := by
  refine en_Kq (own := RJ2) (by decide) rfl (Nat.le_of_ble_eq_true rfl) (Or.inr ⟨_, rfl⟩) ?_
  intro ag pp ev sS mM below meth cd ls Q C hS hl hR
  have hx := C.1.1
  have hb := C.1.2.1
  have hl : lv_has ls 4 [(0, .ref a), (1, .int (nI (n + 1)))] := hl
  refine lv_aload_n hx hb dJ2_grow_2_0 rfl (lv_at hl 0 rfl) ?_
  refine gf_J2_9 C hq rfl dJ2_grow_2_1 ?_
  refine g_qalen C he dJ2_grow_2_4 ?_
  refine lv_istore_n (lv' := [(2, _), (0, _), (1, _)]) hx hb dJ2_grow_2_5 rfl hl (by decide) rfl (fun ls hl => ?_)
  refine lv_iload_n hx hb dJ2_grow_2_6 rfl (lv_at hl 0 rfl) ?_
  refine lv_if_gt (tgt := 20) hx hb dJ2_grow_2_7 (by decide) (fun c_7 => ?_) (fun c_7 => ?_)
  · skip
    refine lv_iload_n hx hb dJ2_grow_2_20 rfl (lv_at hl 0 rfl) ?_
    refine lv_iload_n hx hb dJ2_grow_2_21 rfl (lv_at hl 2 rfl) ?_
    refine lv_iload_n hx hb dJ2_grow_2_22 rfl (lv_at hl 0 rfl) ?_
    refine lv_isub hx hb dJ2_grow_2_23 ?_
    refine lv_iload_n hx hb dJ2_grow_2_24 rfl (lv_at hl 0 rfl) ?_
    refine lv_iconst (v := 1) hx hb dJ2_grow_2_25 (by decide) ?_
    refine lv_ishr hx hb dJ2_grow_2_26 ?_
    refine cv_J2_73 C hS (m_J13_newLength z l (cap := n) (by omega) h0 rfl (by rw [pk_sub (by omega)]; congr 1; omega) (shr1 (by omega))) (Nat.le_of_ble_eq_true rfl) hl.1 (Nat.le_of_ble_eq_true rfl) (by omega) (by omega) dJ2_grow_2_27 (fun r_27 h_27 => ?_)
    subst h_27
    refine lv_istore_n (lv' := [(3, _), (2, _), (0, _), (1, _)]) hx hb dJ2_grow_2_30 rfl hl (by decide) rfl (fun ls hl => ?_)
    refine lv_aload_n hx hb dJ2_grow_2_31 rfl (lv_at hl 2 rfl) ?_
    refine lv_aload_n hx hb dJ2_grow_2_32 rfl (lv_at hl 2 rfl) ?_
    refine gf_J2_9 C hq rfl dJ2_grow_2_33 ?_
    refine lv_iload_n hx hb dJ2_grow_2_36 rfl (lv_at hl 0 rfl) ?_
    refine cv_J2_66 C hS (m_J15_copyOf z l he (Nat.le_of_lt gN_lt) (gN_le hn) hE) (Nat.le_of_ble_eq_true rfl) hl.1 (Nat.le_of_ble_eq_true rfl) (by omega) (by omega) dJ2_grow_2_37 (fun r_37 H1 locs h_37 hz_37 hS => ?_)
    obtain ⟨rfl, hNw⟩ := h_37
    have hlt := hq.lt
    refine lv_dup_x1 hx hb dJ2_grow_2_40 rfl rfl ?_
    refine pf_J2_9 C (hq.ext hNw.ext) (Nat.le_of_ble_eq_true rfl) rfl rfl hS hA dJ2_grow_2_41 (fun H1 locs hu hS => ?_)
    have hsz := hNw.2.1
    exact hR _ _ (some _) _ _ _ _ dJ2_grow_2_44 hS (by omega) (by omega) (⟨rfl, by rw [hu.2.1, hsz], hNw.1.up hu (by omega), hu.1, fun q h1 h2 => by rw [hu.2.2 q h2, hNw.2.2 q h1]⟩)
  · skip
    exact absurd (show nI n > 0 from by rw [← nI_0]; exact nI_lt h0 (by omega)) c_7

set_option maxHeartbeats 4000000 in
theorem m_grow_0 (z : Zt) (l : Launch) {H : Heap} {a : Nat} {md : Int32} (hq : c1 z a (.inr (2, [.int md, .ref (zs z 0), .int (nI 0)])) H) (hA : AA z a) {f : Nat → Option Nat} : Kq z l yJ2_grow_2 cJ2_grow_2 4 (.array (.object "java/lang/Object")) [.ref a, .int (nI 1)] H 4 1 34 (fun r H1 => r = some H.size ∧ GrowR z a md 0 0 f H H1) := by
  refine en_Kq (own := RJ2) (by decide) rfl (Nat.le_of_ble_eq_true rfl) (Or.inr ⟨_, rfl⟩) ?_
  intro ag pp ev sS mM below meth cd ls Q C hS hl hR
  have hx := C.1.1
  have hb := C.1.2.1
  have hl : lv_has ls 4 [(0, .ref a), (1, .int (nI 1))] := hl
  refine lv_aload_n hx hb dJ2_grow_2_0 rfl (lv_at hl 0 rfl) ?_
  refine gf_J2_9 C hq rfl dJ2_grow_2_1 ?_
  refine g_talen C C.tDE hS dJ2_grow_2_4 ?_
  refine lv_istore_n (lv' := [(2, _), (0, _), (1, _)]) hx hb dJ2_grow_2_5 rfl hl (by decide) rfl (fun ls hl => ?_)
  refine lv_iload_n hx hb dJ2_grow_2_6 rfl (lv_at hl 0 rfl) ?_
  refine lv_if_gt (tgt := 20) hx hb dJ2_grow_2_7 (by decide) (fun c_7 => ?_) (fun c_7 => ?_)
  · skip
    exact absurd c_7 (by decide)
  · skip
    refine lv_aload_n hx hb dJ2_grow_2_10 rfl (lv_at hl 1 rfl) ?_
    refine gf_J2_9 C hq rfl dJ2_grow_2_11 ?_
    refine va_gets hx hb C.zDE hS C.1.2.2.2.1 (C.1.2.2.2.2 _ q89) (fun _ h => h) dJ2_grow_2_14 ?_
    refine lv_acmp_eq (tgt := 45) (rx := some (zs z 0)) (ry := some (zs z 0)) hx hb dJ2_grow_2_17 (by decide) (fun c_17 => ?_) (fun c_17 => ?_)
    · skip
      refine lv_aload_n hx hb dJ2_grow_2_45 rfl (lv_at hl 1 rfl) ?_
      refine lv_bipush (v := 10) hx hb dJ2_grow_2_46 (by decide) ?_
      refine lv_iload_n hx hb dJ2_grow_2_48 rfl (lv_at hl 2 rfl) ?_
      refine g_max C (C.1.2.2.2.2 _ q524) (Nat.le_of_ble_eq_true rfl) hl.1 (Nat.le_of_ble_eq_true rfl) (by omega) (by omega) dJ2_grow_2_49 ?_
      rw [show mx 10 (nI 1) = nI 10 from by decide]
      refine r_newq C (C.1.2.2.2.2 _ q525) (nI_pos (by omega)) (nI_clamp (n := 10) (by omega)) (by omega) hS (by omega) (by omega) dJ2_grow_2_52 (fun H1 hn hS => ?_)
      have hlt := hq.lt
      have hsz := hn.2.1
      refine lv_dup_x1 hx hb dJ2_grow_2_55 rfl rfl ?_
      refine pf_J2_9 C (hq.ext hn.ext) (Nat.le_of_ble_eq_true rfl) rfl rfl hS hA dJ2_grow_2_56 (fun H1 locs hu hS => ?_)
      exact hR _ _ (some _) _ _ _ _ dJ2_grow_2_59 hS (by omega) (by omega) (⟨rfl, by rw [hu.2.1, hsz], by exact (show c1 z H.size (aQ z (gN 0) (fun i => if i < 0 then f i else none)) _ from hn.1).up hu (by omega), hu.1, fun q h1 h2 => by rw [hu.2.2 q h2, hn.2.2 q h1]⟩)
    · skip
      exact absurd rfl c_17

theorem m_grow2 (z : Zt) (l : Launch) {H : Heap} {a e n cap : Nat} {md : Int32} {f : Nat → Option Nat} (hq : c1 z a (.inr (2, [.int md, .ref e, .int (nI n)])) H) (hA : AA z a) (hL : (cap = 0 ∧ e = zs z 0) ∨ (0 < cap ∧ c1 z e (aQ z cap f) H)) (hf : n = cap) (hn : n ≤ 23) (hE : Els z H f n) : Kq z l yJ2_grow_2 cJ2_grow_2 4 (.array (.object "java/lang/Object")) [.ref a, .int (nI (n + 1))] H 4 1 34 (fun r H1 => r = some H.size ∧ GrowR z a md n cap f H H1) := by
  subst hf
  rcases hL with ⟨rfl, rfl⟩ | ⟨h0, he⟩
  · exact m_grow_0 z l hq hA
  · exact m_grow_p z l hq hA he h0 hn hE

set_option maxHeartbeats 4000000 in
theorem m_J2_grow (z : Zt) (l : Launch) {H : Heap} {a e n : Nat} {md : Int32} (hq : c1 z a (.inr (2, [.int md, .ref e, .int (nI n)])) H) (hA : AA z a) {cap : Nat} {f : Nat → Option Nat} (hL : (cap = 0 ∧ e = zs z 0) ∨ (0 < cap ∧ c1 z e (aQ z cap f) H)) (hf : n = cap) (hn : n ≤ 23) (hE : Els z H f n) : Kq z l yJ2_grow cJ2_grow 1 (.array (.object "java/lang/Object")) [.ref a] H 5 1 34 (fun r H1 => r = some H.size ∧ GrowR z a md n cap f H H1) := by
  refine en_Kq (own := RJ2) (by decide) rfl (Nat.le_of_ble_eq_true rfl) (Or.inr ⟨_, rfl⟩) ?_
  intro ag pp ev sS mM below meth cd ls Q C hS hl hR
  have hx := C.1.1
  have hb := C.1.2.1
  have hl : lv_has ls 1 [(0, .ref a)] := hl
  refine lv_aload_n hx hb dJ2_grow_0 rfl (lv_at hl 0 rfl) ?_
  refine lv_aload_n hx hb dJ2_grow_1 rfl (lv_at hl 0 rfl) ?_
  refine gf_J2_48 C hq rfl dJ2_grow_2 ?_
  refine lv_iconst (v := 1) hx hb dJ2_grow_5 (by decide) ?_
  refine lv_iadd hx hb dJ2_grow_6 ?_
  rw [nI_1]
  refine cv_J2_69 C hq hS (m_grow2 z l hq hA hL hf hn hE) (Nat.le_of_ble_eq_true rfl) hl.1 (Nat.le_of_ble_eq_true rfl) (by omega) (by omega) dJ2_grow_7 (fun r_7 H1 locs h_7 hz_7 hS => ?_)
  exact hR _ _ _ _ _ _ _ dJ2_grow_10 hS (by omega) (by omega) (h_7)

