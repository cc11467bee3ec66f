set_option maxRecDepth 100000
theorem m_addL (z : Zt) (l : Launch) {H : Heap} {F : Nat → Prop} {ad : Nat → Nat → Nat} {st : St} {gh : Gh} (hQ : QW z F ad st gh H) {i x : Nat} (hi : i < nC st + 2) (hn : lsz st i ≤ 23) (ho : ¬ AA z (zs z 0)) (hx : El z H x) : Ki z l yJ2_add cJ2_add 2 .boolean [.ref (ad 2 i), .ref x] H 7 1 34 (fun r H1 => r = 1 ∧ AddR z (ad 2 i) (eA z ad gh i) (gh.1 i + 1) (lsz st i) (gh.2 i) (qel z ad st i) x H H1) := by
  have hcap := hQ.cap hi
  refine m_J2_add z l (f := qel z ad st i) (hQ.l hi) (hQ.aa (k := 2) (i := i) hi) (hQ.eL hi) (fun h => by unfold eA; rw [if_neg (by omega)]; exact hQ.aa (k := 3) (i := i) ⟨hi, h⟩) ?_ hn hcap.1 hcap.2 (fun k hk => ?_) (fun k hk y hy => ?_) hx
  · unfold eA
    split
    · intro h9
      have h8 := hQ.aa (k := 2) (i := i) hi
      rw [h9] at h8
      exact ho h8
    · rename_i g
      exact hQ.ap (k := 2) (i := i) (k' := 3) (i' := i) hi ⟨hi, by omega⟩ (by omega)
  · match i, hk with
    | 0, hk => exact if_neg (Nat.not_lt.mpr hk)
    | 1, hk => exact if_neg (Nat.not_lt.mpr hk)
    | i + 2, hk => exact if_neg (Nat.not_lt.mpr hk)
  · match i, hi, hk, hy with
    | 0, _, hk, hy =>
      rw [QW.el0 hk] at hy
      cases hy
      exact Or.inl ⟨_, hQ.c hk⟩
    | 1, _, hk, hy =>
      rw [QW.el1 hk] at hy
      cases hy
      exact Or.inr (Or.inl ⟨_, hQ.p hk⟩)
    | i + 2, hi, hk, hy =>
      rw [QW.el2 hk] at hy
      cases hy
      exact Or.inr (Or.inr ⟨_, by have := ((hQ.inv.2.2.1 i (by omega)).2.2.2.2 k hk).cl (by omega); omega, rfl⟩)
def orG (st : St) (k : Nat) : Bool := decide (0 < st 2 k) && decide (mC st k < 24)
def aOrder (st : St) (c x : Int32) : Ans := cond (inI c (nI (nC st))) (cond (inB x 0 11) (cond (orG st (cN c)) (0, nI (mC st (cN c) + 1), orT st (cN c) x) (3, 0, st)) (2, 0, st)) (1, 0, st)

set_option maxHeartbeats 4000000 in
theorem m_X1_order (z : Zt) (l : Launch) {H : Heap} (hlT : l.stackTraces = false) {F : Nat → Prop} {ad : Nat → Nat → Nat} {st : St} {gh : Gh} (hQ : QW z F ad st gh H) {a : Nat} (hx9 : c1 z a (.inr (0, [.ref (ad 0 0)])) H) (hFa : ¬ F a) {i x : Int32} : Xi z l yX1_order cX1_order 4 .int [.ref a, .int i, .int x] H 9 4 52 (fun r H1 => ∃ st1, aOrder st i x = (0, r, st1) ∧ XP z F ad st1 H H1) (fun E => (E = eI_ ∧ (aOrder st i x).1 = 1) ∨ (E = eA_ ∧ (aOrder st i x).1 = 2) ∨ (E = eS_ ∧ (aOrder st i x).1 = 3)) := by
  refine en_Xi (own := RX1) (by decide) rfl (Nat.le_of_ble_eq_true rfl) ?_
  intro ag pp ev sS mM below meth cd ls Q C hS hl hR hX
  have hx := C.1.1
  have hb := C.1.2.1
  have hl : lv_has ls 4 [(0, .ref a), (1, .int i), (2, .int x)] := hl
  have hout : ¬ AA z (zs z 0) := C.tDE.out
  refine lv_aload_n hx hb dX1_order_0 rfl (lv_at hl 0 rfl) ?_
  refine gf_X1_39 C hx9 rfl dX1_order_1 ?_
  refine gf_X1_65 C hQ.q rfl dX1_order_4 ?_
  refine lv_iload_n hx hb dX1_order_7 rfl (lv_at hl 1 rfl) ?_
  refine cv_X1_83 C hS (m_knC z l hlT hQ) (Nat.le_of_ble_eq_true rfl) hl.1 (Nat.le_of_ble_eq_true rfl) (by omega) (by omega) dX1_order_8 (fun E ce9 q9 H1 locs hpx hE hS h1 h2 h3 => hX _ _ _ _ _ _ _ _ _ _ h1 h2 h3 hS (by omega) (by omega) hE (Or.inl ⟨hpx.1, by unfold aOrder; rw [inI_f hpx.2]; rfl⟩)) (fun r_8 H1 locs h_8 hz_8 hS => ?_)
  obtain ⟨e8, k, hk, hi, h8⟩ := h_8
  rw [e8] at hS ⊢
  subst hi
  subst h8
  have hN := hQ.nCi
  have hin := inI_t (cOk_nI (by omega) hk)
  have hcl : cN (nI k) = k := nI_clamp (by omega)
  refine va_castE hx hb C.1.2.2.2.1 (C.1.2.2.2.2 _ q210) ((hQ.c hk).recv C.2.1 rfl) dX1_order_11 ?_
  refine lv_astore_n (lv' := [(3, _), (0, _), (1, _), (2, _)]) hx hb dX1_order_14 rfl hl (by decide) rfl (fun ls hl => ?_)
  refine lv_iconst (v := 0) hx hb dX1_order_15 (by decide) ?_
  refine lv_bipush (v := 11) hx hb dX1_order_16 (by decide) ?_
  refine lv_iload_n hx hb dX1_order_18 rfl (lv_at hl 3 rfl) ?_
  refine cv_X1_58 C hS (m_X1_requireFrom z l hlT) (Nat.le_of_ble_eq_true rfl) hl.1 (Nat.le_of_ble_eq_true rfl) (by omega) (by omega) dX1_order_19 (fun E ce9 q9 H1 locs hpx hE hS h1 h2 h3 => hX _ _ _ _ _ _ _ _ _ _ h1 h2 h3 hS (by omega) (by omega) hE (Or.inr (Or.inl ⟨hpx.1, by unfold aOrder; rw [hin, inB_f hpx.2]; rfl⟩))) (fun H1 locs h_19 hz_19 hS => ?_)
  obtain ⟨e19, h19⟩ := h_19
  rw [e19] at hS ⊢
  obtain ⟨j, -, hj, hj3⟩ := inB_ex (lo := 0) (hi := 11) (by omega) h19 (by omega)
  subst hj3
  have hmc := hQ.mCi hk
  refine lv_aload_n hx hb dX1_order_22 rfl (lv_at hl 0 rfl) ?_
  refine cv_X1_87 C (hQ.c hk) hS (m_X5_isThere z l (hQ.c hk)) (Nat.le_of_ble_eq_true rfl) hl.1 (Nat.le_of_ble_eq_true rfl) (by omega) (by omega) dX1_order_23 (fun r_23 h_23 => ?_)
  subst h_23
  refine lv_if_eq (tgt := 45) hx hb dX1_order_26 (by decide) (fun c_26 => ?_) (fun c_26 => ?_)
  · skip
    have hg : orG st k = false := by unfold orG; rw [bI_f c_26]; rfl
    refine lv_iconst (v := 0) hx hb dX1_order_45 (by decide) ?_
    refine cv_X1_55 C hS (m_X1_requireState z l hlT) (Nat.le_of_ble_eq_true rfl) hl.1 (Nat.le_of_ble_eq_true rfl) (by omega) (by omega) dX1_order_46 (fun E ce9 q9 H1 locs hpx hE hS h1 h2 h3 => hX _ _ _ _ _ _ _ _ _ _ h1 h2 h3 hS (by omega) (by omega) hE (Or.inr (Or.inr ⟨hpx.1, by unfold aOrder; rw [hin, inB_t h19, hcl, hg]; rfl⟩))) (fun H1 locs h_46 hz_46 hS => ?_)
    exact absurd rfl h_46.2
  · skip
    refine lv_aload_n hx hb dX1_order_29 rfl (lv_at hl 0 rfl) ?_
    refine gf_X1_91 C (hQ.c hk) rfl dX1_order_30 ?_
    refine cv_X1_69 C (hQ.lo hk) hS (m_J2_size z l (hQ.lo hk)) (Nat.le_of_ble_eq_true rfl) hl.1 (Nat.le_of_ble_eq_true rfl) (by omega) (by omega) dX1_order_33 (fun r_33 h_33 => ?_)
    subst h_33
    refine lv_bipush (v := 24) hx hb dX1_order_36 (by decide) ?_
    refine lv_icmp_ge (tgt := 45) hx hb dX1_order_38 (by decide) (fun c_38 => ?_) (fun c_38 => ?_)
    · skip
      have hg : orG st k = false := by unfold orG; rw [decide_eq_false (fun h9 => absurd c_38 (nI_ge (b := 24) h9 (by omega))), Bool.and_false]
      refine lv_iconst (v := 0) hx hb dX1_order_45 (by decide) ?_
      refine cv_X1_55 C hS (m_X1_requireState z l hlT) (Nat.le_of_ble_eq_true rfl) hl.1 (Nat.le_of_ble_eq_true rfl) (by omega) (by omega) dX1_order_46 (fun E ce9 q9 H1 locs hpx hE hS h1 h2 h3 => hX _ _ _ _ _ _ _ _ _ _ h1 h2 h3 hS (by omega) (by omega) hE (Or.inr (Or.inr ⟨hpx.1, by unfold aOrder; rw [hin, inB_t h19, hcl, hg]; rfl⟩))) (fun H1 locs h_46 hz_46 hS => ?_)
      exact absurd rfl h_46.2
    · skip
      have hm24 : mC st k < 24 := Nat.not_le.mp (fun h9 => c_38 (nI_le (a := 24) h9 (by omega)))
      have hg : orG st k = true := by unfold orG; rw [bI_t c_26, decide_eq_true hm24]; rfl
      refine lv_iconst (v := 1) hx hb dX1_order_41 (by decide) ?_
      refine lv_goto (tgt := 46) hx hb dX1_order_42 (by decide) ?_
      refine cv_X1_55 C hS (m_X1_requireState z l hlT) (Nat.le_of_ble_eq_true rfl) hl.1 (Nat.le_of_ble_eq_true rfl) (by omega) (by omega) dX1_order_46 (fun E ce9 q9 H1 locs hpx hE hS h1 h2 h3 => hX _ _ _ _ _ _ _ _ _ _ h1 h2 h3 hS (by omega) (by omega) hE (absurd hpx.2 (by decide))) (fun H1 locs h_46 hz_46 hS => ?_)
      obtain ⟨e46, h46⟩ := h_46
      rw [e46] at hS ⊢
      refine lv_aload_n hx hb dX1_order_49 rfl (lv_at hl 0 rfl) ?_
      refine gf_X1_91 C (hQ.c hk) rfl dX1_order_50 ?_
      refine lv_iload_n hx hb dX1_order_53 rfl (lv_at hl 3 rfl) ?_
      refine cv_X1_94 C hS (m_J17_valueOf z l (j := j) (by omega)) (Nat.le_of_ble_eq_true rfl) hl.1 (Nat.le_of_ble_eq_true rfl) (by omega) (by omega) dX1_order_54 (fun r_54 h_54 => ?_)
      subst h_54
      have hS4 := hS
      refine cv_X1_79 C (hQ.lo hk) hS (m_addL z l hQ (i := k + 2) (by omega) (show mC st k ≤ 23 by omega) hout (Or.inr (Or.inr ⟨j + 128, by omega, rfl⟩))) (Nat.le_of_ble_eq_true rfl) hl.1 (Nat.le_of_ble_eq_true rfl) (by omega) (by omega) dX1_order_57 (fun r_57 H1 locs h_57 hz_57 hS => ?_)
      have hadd := h_57.2
      have hfr := hadd.fr (fun h => by unfold eA; rw [if_pos h]) (C.2.2.1.S hS4) (C.2.2.1.S hS) hout
      have hXP := hQ.ord hk (show mC st k ≤ 23 by omega) (show j < 12 by omega) (C.2.2.1.S hS4) (C.2.2.1.S hS) hout hadd
      obtain ⟨e6, cap6, j1, -⟩ := hadd
      have hck := (hQ.c hk).kept (hfr _ (hQ.lt (k := 4) (i := k) hk) (hQ.ap (k := 4) (i := k) (k' := 2) (i' := k + 2) hk (show k + 2 < nC st + 2 by omega) (by omega)) (fun h0 => by unfold eA; rw [if_neg (by omega)]; exact hQ.ap (k := 4) (i := k) (k' := 3) (i' := k + 2) hk ⟨by omega, h0⟩ (by omega)))
      refine lv_pop hx hb dX1_order_60 rfl ?_
      refine lv_aload_n hx hb dX1_order_61 rfl (lv_at hl 0 rfl) ?_
      refine gf_X1_91 C hck rfl dX1_order_62 ?_
      refine cv_X1_69 C j1 hS (m_J2_size z l j1) (Nat.le_of_ble_eq_true rfl) hl.1 (Nat.le_of_ble_eq_true rfl) (by omega) (by omega) dX1_order_65 (fun r_65 h_65 => ?_)
      subst h_65
      exact hR _ _ _ _ _ _ _ dX1_order_68 rfl hS (by omega) (by omega) (⟨_, by unfold aOrder; rw [hin, inB_t h19, hcl, hg]; rfl, hXP⟩)

def asT (st : St) (c : Nat) (x : Int32) : St := sSet (sSet st 4 c 1) 5 (24 * c) x
theorem asT_eq (st : St) (c : Nat) (x : Int32) : orT (clT st c) c x = asT st c x := by
  have h0 : mC (clT st c) c = 0 := mC_set (n := 0) (by omega)
  funext g k
  unfold orT asT
  rw [h0]
  unfold clT sSet
  by_cases g4 : g = 4
  · subst g4
    simp only [if_true, if_false, show ¬ (4 : Nat) = 5 by omega]
    unfold upd
    by_cases e : k = c
    · rw [if_pos e, if_pos e]; rfl
    · rw [if_neg e, if_neg e, if_neg e]
  · by_cases g5 : g = 5
    · subst g5
      simp only [if_true, if_false, show ¬ (5 : Nat) = 4 by omega]
      rfl
    · simp only [if_neg g4, if_neg g5]
theorem XP.un {z : Zt} {ad : Nat → Nat → Nat} {st : St} {N : Nat} {H1 H2 : Heap} (h : XP z (fun q => N ≤ q) ad st H1 H2) (hN : N ≤ H1.size) : ∃ ad' gh', QW z (fun q => N ≤ q) ad' st gh' H2 ∧ ad' 0 0 = ad 0 0 ∧ ∀ q, q < N → H2[q]? = H1[q]? := by
  obtain ⟨F', ad', gh', h1, h2, h3, h4⟩ := h
  exact ⟨ad', gh', h1.mono (fun q hq => (h3 q hq).elim id (fun g => Nat.le_trans hN g)), h2, fun q hq => h4 q (Nat.lt_of_lt_of_le hq hN) (Nat.not_le.mpr hq)⟩
def swF (st : St) (c j : Nat) : Int32 := nI (shF (cst (passT (asT st c (nI j)))) 1000)

set_option maxHeartbeats 4000000 in
theorem m_X1_shutsWith (z : Zt) (l : Launch) {H : Heap} {F : Nat → Prop} {ad : Nat → Nat → Nat} {st : St} {gh : Gh} (hQ : QW z F ad st gh H) {a : Nat} (hx9 : c1 z a (.inr (0, [.ref (ad 0 0)])) H) {c j : Nat} (hc : c < nC st) (hj : j < 12) : Ki z l yX1_shutsWith cX1_shutsWith 4 .int [.ref a, .int (nI c), .int (nI j)] H 10 174 5519 (fun r H1 => r = swF st c j ∧ Ext H H1) := by
  refine en_Ki (own := RX1) (by decide) rfl (Nat.le_of_ble_eq_true rfl) ?_
  intro ag pp ev sS mM below meth cd ls Q C hS hl hR
  have hx := C.1.1
  have hb := C.1.2.1
  have hl : lv_has ls 4 [(0, .ref a), (1, .int (nI c)), (2, .int (nI j))] := hl
  have hout : ¬ AA z (zs z 0) := C.tDE.out
  refine lv_aload_n hx hb dX1_shutsWith_0 rfl (lv_at hl 0 rfl) ?_
  refine gf_X1_39 C hx9 rfl dX1_shutsWith_1 ?_
  refine cv_X1_185 C hQ.q hS (m_X2_copy z l hQ) (Nat.le_of_ble_eq_true rfl) hl.1 (Nat.le_of_ble_eq_true rfl) (by omega) (by omega) dX1_shutsWith_4 (fun r_4 H1 locs h_4 hz_4 hS => ?_)
  obtain ⟨h4, hE4, ad1, gh1, hQ1, ha1⟩ := h_4
  subst h4
  have hq1 := hQ1.q
  rw [ha1] at hq1
  have hz1 := hE4.1
  have hS1 := hS
  have hcap := hQ1.cap (i := c + 2) (by omega)
  refine lv_astore_n (lv' := [(3, _), (0, _), (1, _), (2, _)]) hx hb dX1_shutsWith_7 rfl hl (by decide) rfl (fun ls hl => ?_)
  refine lv_aload_n hx hb dX1_shutsWith_8 rfl (lv_at hl 0 rfl) ?_
  refine gf_X1_65 C hq1 rfl dX1_shutsWith_9 ?_
  refine lv_iload_n hx hb dX1_shutsWith_12 rfl (lv_at hl 2 rfl) ?_
  refine cv_X1_122 C hQ1.lc hS (m_getC z l hQ1 hc) (Nat.le_of_ble_eq_true rfl) hl.1 (Nat.le_of_ble_eq_true rfl) (by omega) (by omega) dX1_shutsWith_13 (fun r_13 h_13 => ?_)
  subst h_13
  refine va_castE hx hb C.1.2.2.2.1 (C.1.2.2.2.2 _ q210) ((hQ1.c hc).recv C.2.1 rfl) dX1_shutsWith_16 ?_
  refine gf_X1_91 C (hQ1.c hc) rfl dX1_shutsWith_19 ?_
  refine cv_X1_189 C (hQ1.lo hc) hS (m_J2_clear z l (hQ1.lo hc) (hQ1.aa (k := 2) (i := c + 2) (show c + 2 < nC st + 2 by omega)) (hQ1.eL (i := c + 2) (by omega)) (fun h => by unfold eA; rw [if_neg (by omega)]; exact hQ1.aa (k := 3) (i := c + 2) ⟨by omega, h⟩) (by
    unfold eA
    split
    · intro h9
      have h8 := hQ1.aa (k := 2) (i := c + 2) (show c + 2 < nC st + 2 by omega)
      rw [h9] at h8
      exact hout h8
    · rename_i g
      exact hQ1.ap (k := 2) (i := c + 2) (k' := 3) (i' := c + 2) (show c + 2 < nC st + 2 by omega) ⟨by omega, by omega⟩ (by omega)) hcap.1 hcap.2 (fun i hi => if_neg (Nat.not_lt.mpr hi))) (Nat.le_of_ble_eq_true rfl) hl.1 (Nat.le_of_ble_eq_true rfl) (by omega) (by omega) dX1_shutsWith_22 (fun H1 locs h_22 hz_22 hS => ?_)
  obtain ⟨x1, x2, x3, x4⟩ := h_22
  have hXP := hQ1.clr hc (C.2.2.1.S hS1) (C.2.2.1.S hS) hout x1 x2 x4
  obtain ⟨ad2, gh2, hQ2, ha2, hfr2⟩ := hXP.un hz1
  rw [ha1] at ha2
  have hE5 : Ext H H1 := ⟨by have := hz_22; omega, fun q hq => by rw [hfr2 q hq, hE4.2 q hq]⟩
  have hq2 := hQ2.q
  rw [ha2] at hq2
  have hc2 : c < nC (clT st c) := hc
  have hm2 : mC (clT st c) c = 0 := mC_set (n := 0) (by omega)
  have hS2 := hS
  have hz2 := hE5.1
  refine lv_aload_n hx hb dX1_shutsWith_25 rfl (lv_at hl 0 rfl) ?_
  refine gf_X1_65 C hq2 rfl dX1_shutsWith_26 ?_
  refine lv_iload_n hx hb dX1_shutsWith_29 rfl (lv_at hl 2 rfl) ?_
  refine cv_X1_122 C hQ2.lc hS (m_getC z l hQ2 hc2) (Nat.le_of_ble_eq_true rfl) hl.1 (Nat.le_of_ble_eq_true rfl) (by omega) (by omega) dX1_shutsWith_30 (fun r_30 h_30 => ?_)
  subst h_30
  refine va_castE hx hb C.1.2.2.2.1 (C.1.2.2.2.2 _ q210) ((hQ2.c hc2).recv C.2.1 rfl) dX1_shutsWith_33 ?_
  refine gf_X1_91 C (hQ2.c hc2) rfl dX1_shutsWith_36 ?_
  refine lv_iload_n hx hb dX1_shutsWith_39 rfl (lv_at hl 3 rfl) ?_
  refine cv_X1_94 C hS (m_J17_valueOf z l (j := j) (by omega)) (Nat.le_of_ble_eq_true rfl) hl.1 (Nat.le_of_ble_eq_true rfl) (by omega) (by omega) dX1_shutsWith_40 (fun r_40 h_40 => ?_)
  subst h_40
  refine cv_X1_79 C (hQ2.lo hc2) hS (m_addL z l hQ2 (i := c + 2) (by omega) (show mC (clT st c) c ≤ 23 by omega) hout (Or.inr (Or.inr ⟨j + 128, by omega, rfl⟩))) (Nat.le_of_ble_eq_true rfl) hl.1 (Nat.le_of_ble_eq_true rfl) (by omega) (by omega) dX1_shutsWith_43 (fun r_43 H1 locs h_43 hz_43 hS => ?_)
  have hXP3 := hQ2.ord hc2 (show mC (clT st c) c ≤ 23 by omega) hj (C.2.2.1.S hS2) (C.2.2.1.S hS) hout h_43.2
  obtain ⟨ad3, gh3, hQ3, ha3, hfr3⟩ := hXP3.un hz2
  rw [ha2] at ha3
  rw [asT_eq] at hQ3
  have hE6 : Ext H H1 := ⟨by have := hz_43; omega, fun q hq => by rw [hfr3 q hq, hE5.2 q hq]⟩
  have hps := m_X1_pass_2 z l hQ3 (n := 1) (by omega)
  rw [ha3] at hps
  refine lv_pop hx hb dX1_shutsWith_46 rfl ?_
  refine lv_aload_n hx hb dX1_shutsWith_47 rfl (lv_at hl 0 rfl) ?_
  refine lv_iconst (v := 1) hx hb dX1_shutsWith_48 (by decide) ?_
  refine cv_X1_182 C hS (hps) (Nat.le_of_ble_eq_true rfl) hl.1 (Nat.le_of_ble_eq_true rfl) (by omega) (by omega) dX1_shutsWith_49 (fun r_49 H1 locs h_49 hz_49 hS => ?_)
  obtain ⟨h49, hM⟩ := h_49
  subst h49
  have hE7 := hM.exN hE6
  obtain ⟨gh4, hQ4⟩ := hM.1
  have hq4 := hQ4.q
  have hsh := m_X2_shuts z l hQ4
  rw [ha3] at hq4 hsh
  refine cv_X1_176 C hq4 hS (hsh) (Nat.le_of_ble_eq_true rfl) hl.1 (Nat.le_of_ble_eq_true rfl) (by omega) (by omega) dX1_shutsWith_52 (fun r_52 H1 locs h_52 hz_52 hS => ?_)
  obtain ⟨h52, hE8⟩ := h_52
  subst h52
  exact hR _ _ _ _ _ _ _ dX1_shutsWith_55 rfl hS (by omega) (by omega) (⟨rfl, hE7.tr hE8⟩)

def advF (f : Nat → Int32) : Nat → Int32 × Int32
  | 0 => (0, f 0)
  | n + 1 => if f (n + 1) < (advF f n).2 then (nI (n + 1), f (n + 1)) else advF f n
def aAdvise (st : St) (c : Int32) : Ans := cond (inI c (nI (nC st))) (cond (decide (0 < st 2 (cN c))) (0, (advF (swF st (cN c)) 11).1, st) (0, -1, st)) (1, 0, st)

set_option maxHeartbeats 4000000 in
theorem m_X1_advise (z : Zt) (l : Launch) {H : Heap} (hlT : l.stackTraces = false) {F : Nat → Prop} {ad : Nat → Nat → Nat} {st : St} {gh : Gh} (hQ : QW z F ad st gh H) {a : Nat} (hx9 : c1 z a (.inr (0, [.ref (ad 0 0)])) H) (hFa : ¬ F a) {i : Int32} : Xi z l yX1_advise cX1_advise 7 .int [.ref a, .int i] H 11 2089 66234 (fun r H1 => ∃ st1, aAdvise st i = (0, r, st1) ∧ XP z F ad st1 H H1) (fun E => (E = eI_ ∧ (aAdvise st i).1 = 1)) := by
  refine en_Xi (own := RX1) (by decide) rfl (Nat.le_of_ble_eq_true rfl) ?_
  intro ag pp ev sS mM below meth cd ls Q C hS hl hR hX
  have hx := C.1.1
  have hb := C.1.2.1
  have hl : lv_has ls 7 [(0, .ref a), (1, .int i)] := hl
  refine lv_aload_n hx hb dX1_advise_0 rfl (lv_at hl 0 rfl) ?_
  refine gf_X1_39 C hx9 rfl dX1_advise_1 ?_
  refine gf_X1_65 C hQ.q rfl dX1_advise_4 ?_
  refine lv_iload_n hx hb dX1_advise_7 rfl (lv_at hl 1 rfl) ?_
  refine cv_X1_83 C hS (m_knC z l hlT hQ) (Nat.le_of_ble_eq_true rfl) hl.1 (Nat.le_of_ble_eq_true rfl) (by omega) (by omega) dX1_advise_8 (fun E ce9 q9 H1 locs hpx hE hS h1 h2 h3 => hX _ _ _ _ _ _ _ _ _ _ h1 h2 h3 hS (by omega) (by omega) hE ( ⟨hpx.1, by unfold aAdvise; rw [inI_f hpx.2]; rfl⟩)) (fun r_8 H1 locs h_8 hz_8 hS => ?_)
  obtain ⟨e8, k, hk, hi, h8⟩ := h_8
  rw [e8] at hS ⊢
  subst hi
  subst h8
  have hN := hQ.nCi
  have hin := inI_t (cOk_nI (by omega) hk)
  have hcl : cN (nI k) = k := nI_clamp (by omega)
  refine va_castE hx hb C.1.2.2.2.1 (C.1.2.2.2.2 _ q210) ((hQ.c hk).recv C.2.1 rfl) dX1_advise_11 ?_
  refine lv_astore_n (lv' := [(2, _), (0, _), (1, _)]) hx hb dX1_advise_14 rfl hl (by decide) rfl (fun ls hl => ?_)
  refine lv_aload_n hx hb dX1_advise_15 rfl (lv_at hl 0 rfl) ?_
  refine cv_X1_87 C (hQ.c hk) hS (m_X5_isThere z l (hQ.c hk)) (Nat.le_of_ble_eq_true rfl) hl.1 (Nat.le_of_ble_eq_true rfl) (by omega) (by omega) dX1_advise_16 (fun r_16 h_16 => ?_)
  subst h_16
  refine lv_if_ne (tgt := 24) hx hb dX1_advise_19 (by decide) (fun c_19 => ?_) (fun c_19 => ?_)
  · skip
    have hg := bI_t c_19
    refine lv_iconst (v := 0) hx hb dX1_advise_24 (by decide) ?_
    refine lv_istore_n (lv' := [(3, _), (2, _), (0, _), (1, _)]) hx hb dX1_advise_25 rfl hl (by decide) rfl (fun ls hl => ?_)
    refine lv_aload_n hx hb dX1_advise_26 rfl (lv_at hl 2 rfl) ?_
    refine lv_iload_n hx hb dX1_advise_27 rfl (lv_at hl 3 rfl) ?_
    refine lv_iconst (v := 0) hx hb dX1_advise_28 (by decide) ?_
    refine cv_X1_192 C hx9 hS (m_X1_shutsWith z l hQ hx9 hk (j := 0) (by omega)) (Nat.le_of_ble_eq_true rfl) hl.1 (Nat.le_of_ble_eq_true rfl) (by omega) (by omega) dX1_advise_29 (fun r_29 H1 locs h_29 hz_29 hS => ?_)
    obtain ⟨h29, hE29⟩ := h_29
    subst h29
    refine lv_istore (lv' := [(4, _), (3, _), (2, _), (0, _), (1, _)]) hx hb dX1_advise_32 hl (by decide) rfl (fun ls hl => ?_)
    refine lv_iconst (v := 1) hx hb dX1_advise_34 (by decide) ?_
    refine lv_istore (lv' := [(5, _), (4, _), (3, _), (2, _), (0, _), (1, _)]) hx hb dX1_advise_35 hl (by decide) rfl (fun ls hl => ?_)
    have L37 : ∀ (k9 : Nat) (u : Nat) (H3 : Heap) (locs : List Loc) (ls : Array Slot), u ≤ 11 → 12 ≤ u + k9 → Ext H H3 → va_S (AA z) sS.heap H3 locs → lv_has ls 7 [(5, .int (nI (u + 1))), (4, .int (advF (swF st k) u).2), (3, .int (advF (swF st k) u).1), (0, .ref a), (1, .int (nI k))] → W pp l ev (RL 11 2089 66234) sS mM ag below meth cd H3 locs (175 + 174 * u) (5525 + 5519 * u) Q (F0 mM 37 ls []) := by
      intro k9
      induction k9 with
      | zero =>
        intro u H3 locs ls hu0 hu1 hE hS hl
        omega
      | succ k9 ih =>
        intro u H3 locs ls hu0 hu1 hE hS hl
        have hQ3 := hQ.ext hE
        have hx3 := hx9.ext hE
        refine lv_iload hx hb dX1_advise_37 (lv_at hl 0 rfl) ?_
        refine lv_bipush (v := 12) hx hb dX1_advise_39 (by decide) ?_
        refine lv_icmp_ge (tgt := 76) hx hb dX1_advise_41 (by decide) (fun c_41 => ?_) (fun c_41 => ?_)
        · skip
          have hue : u = 11 := by have := lp_end (k := u + 1) (n := 12) (by omega) c_41 (by omega); omega
          refine lv_iload_n hx hb dX1_advise_76 rfl (lv_at hl 2 rfl) ?_
          exact hR _ _ _ _ _ _ _ dX1_advise_77 rfl hS (by omega) (by omega) (⟨_, by unfold aAdvise; rw [hin, hcl, hg, ← hue]; rfl, hQ.xp hE⟩)
        · skip
          have hu : u + 1 < 12 := lp_in (by omega) c_41 (by omega)
          refine lv_aload_n hx hb dX1_advise_44 rfl (lv_at hl 3 rfl) ?_
          refine lv_iload_n hx hb dX1_advise_45 rfl (lv_at hl 4 rfl) ?_
          refine lv_iload hx hb dX1_advise_46 (lv_at hl 0 rfl) ?_
          refine cv_X1_192 C hx3 hS (m_X1_shutsWith z l hQ3 hx3 hk hu) (Nat.le_of_ble_eq_true rfl) hl.1 (Nat.le_of_ble_eq_true rfl) (by omega) (by omega) dX1_advise_48 (fun r_48 H1 locs h_48 hz_48 hS => ?_)
          obtain ⟨h48, hE48⟩ := h_48
          subst h48
          have hE5 := hE.tr hE48
          refine lv_istore (lv' := [(6, _), (5, _), (4, _), (3, _), (0, _), (1, _)]) hx hb dX1_advise_51 hl (by decide) rfl (fun ls hl => ?_)
          refine lv_iload hx hb dX1_advise_53 (lv_at hl 0 rfl) ?_
          refine lv_iload hx hb dX1_advise_55 (lv_at hl 2 rfl) ?_
          refine lv_icmp_lt (tgt := 63) hx hb dX1_advise_57 (by decide) (fun c_57 => ?_) (fun c_57 => ?_)
          · skip
            refine lv_iload hx hb dX1_advise_63 (lv_at hl 1 rfl) ?_
            refine lv_istore_n (lv' := [(3, _), (6, _), (5, _), (4, _), (0, _), (1, _)]) hx hb dX1_advise_65 rfl hl (by decide) rfl (fun ls hl => ?_)
            refine lv_iload hx hb dX1_advise_66 (lv_at hl 1 rfl) ?_
            refine lv_istore (lv' := [(4, _), (3, _), (6, _), (5, _), (0, _), (1, _)]) hx hb dX1_advise_68 hl (by decide) rfl (fun ls hl => ?_)
            refine lv_iinc (lv' := [(5, _), (4, _), (3, _), (6, _), (0, _), (1, _)]) hx hb dX1_advise_70 hl (k := 3) rfl (v := nI (u + 1 + 1)) (nI_1 (u + 1)) (by decide) rfl (fun ls hl => ?_)
            refine lv_goto (tgt := 37) hx hb dX1_advise_73 (by decide) ?_
            refine W.cs (cells' := 175 + 174 * (u + 1)) (slots' := 5525 + 5519 * (u + 1)) (by omega) (by omega) ?_
            exact ih (u + 1) _ _ _ (by omega) (by omega) hE5 hS (by first | (rw [show advF (swF st k) (u + 1) = (nI (u + 1), swF st k (u + 1)) from if_pos c_57]; exact lv_sub hl [0, 1, 2, 4, 5] rfl) | (rw [show advF (swF st k) (u + 1) = advF (swF st k) u from if_neg c_57]; exact lv_sub hl [0, 2, 3, 4, 5] rfl))
          · skip
            refine lv_goto (tgt := 70) hx hb dX1_advise_60 (by decide) ?_
            refine lv_iinc (lv' := [(5, _), (6, _), (4, _), (3, _), (0, _), (1, _)]) hx hb dX1_advise_70 hl (k := 1) rfl (v := nI (u + 1 + 1)) (nI_1 (u + 1)) (by decide) rfl (fun ls hl => ?_)
            refine lv_goto (tgt := 37) hx hb dX1_advise_73 (by decide) ?_
            refine W.cs (cells' := 175 + 174 * (u + 1)) (slots' := 5525 + 5519 * (u + 1)) (by omega) (by omega) ?_
            exact ih (u + 1) _ _ _ (by omega) (by omega) hE5 hS (by first | (rw [show advF (swF st k) (u + 1) = (nI (u + 1), swF st k (u + 1)) from if_pos c_57]; exact lv_sub hl [0, 1, 2, 4, 5] rfl) | (rw [show advF (swF st k) (u + 1) = advF (swF st k) u from if_neg c_57]; exact lv_sub hl [0, 2, 3, 4, 5] rfl))
    exact L37 12 0 _ _ _ (by omega) (by omega) hE29 hS (lv_sub hl [0, 1, 2, 4, 5] rfl)
  · skip
    have hg := bI_f c_19
    refine lv_iconst (v := (-1)) hx hb dX1_advise_22 (by decide) ?_
    exact hR _ _ _ _ _ _ _ dX1_advise_23 rfl hS (by omega) (by omega) (⟨_, by unfold aAdvise; rw [hin, hcl, hg]; rfl, hQ.xp Ext.rf⟩)

