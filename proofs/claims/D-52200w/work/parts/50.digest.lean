set_option maxRecDepth 100000
set_option maxHeartbeats 4000000 in
theorem m_X1_pass_2 (z : Zt) (l : Launch) {H : Heap} {F : Nat → Prop} {ad : Nat → Nat → Nat} {st : St} {gh : Gh} (hQ : QW z F ad st gh H) {n : Nat} (hn : n ≤ 60) : Kq z l yX1_pass_2 cX1_pass_2 3 (.object "LaneCrowds$Quarter") [.ref (ad 0 0), .int (nI n)] H 9 0 0 (fun r H1 => r = some (ad 0 0) ∧ QM z F ad (passN st n) H H1) := by
  refine en_Kq (own := RX1) (by decide) rfl (Nat.le_of_ble_eq_true rfl) (Or.inl ⟨_, rfl⟩) ?_
  intro ag pp ev sS mM below meth cd ls Q C hS hl hR
  have hx := C.1.1
  have hb := C.1.2.1
  have hl : lv_has ls 3 [(0, .ref (ad 0 0)), (1, .int (nI n))] := hl
  refine lv_iconst (v := 0) hx hb dX1_pass_2_0 (by decide) ?_
  refine lv_istore_n (lv' := [(2, _), (0, _), (1, _)]) hx hb dX1_pass_2_1 rfl hl (by decide) rfl (fun ls hl => ?_)
  have L2 : ∀ (k9 : Nat) (k : Nat) (H3 : Heap) (locs : List Loc) (gh : Gh) (ls : Array Slot), k ≤ n → n + 1 ≤ k + k9 → QW z F ad (passN st k) gh H3 → QM z F ad (passN st k) H H3 → va_S (AA z) sS.heap H3 locs → lv_has ls 3 [(2, .int (nI k)), (0, .ref (ad 0 0)), (1, .int (nI n))] → W pp l ev (RL 9 0 0) sS mM ag below meth cd H3 locs 0 0 Q (F0 mM 2 ls []) := by
    intro k9
    induction k9 with
    | zero =>
      intro k H3 locs gh ls hk0 hk1 hQ hM hS hl
      omega
    | succ k9 ih =>
      intro k H3 locs gh ls hk0 hk1 hQ hM hS hl
      refine lv_iload_n hx hb dX1_pass_2_2 rfl (lv_at hl 0 rfl) ?_
      refine lv_iload_n hx hb dX1_pass_2_3 rfl (lv_at hl 2 rfl) ?_
      refine lv_icmp_ge (tgt := 17) hx hb dX1_pass_2_4 (by decide) (fun c_4 => ?_) (fun c_4 => ?_)
      · skip
        have hke : k = n := lp_end hk0 c_4 (by omega)
        refine lv_aload_n hx hb dX1_pass_2_17 rfl (lv_at hl 1 rfl) ?_
        exact hR _ _ (some _) _ _ _ _ dX1_pass_2_18 hS (by omega) (by omega) (⟨rfl, by rw [← hke]; exact hM⟩)
      · skip
        have hk : k < n := lp_in hk0 c_4 (by omega)
        refine lv_aload_n hx hb dX1_pass_2_7 rfl (lv_at hl 1 rfl) ?_
        refine cv_X1_179 C hQ.q hS (m_X2_pass z l hQ) (Nat.le_of_ble_eq_true rfl) hl.1 (Nat.le_of_ble_eq_true rfl) (by omega) (by omega) dX1_pass_2_8 (fun H1 locs h_8 hz_8 hS => ?_)
        have hM5 : QM z F ad (passN st (k + 1)) H H1 := hM.tr h_8
        obtain ⟨gh5, hQ5⟩ := hM5.1
        refine lv_iinc (lv' := [(2, _), (0, _), (1, _)]) hx hb dX1_pass_2_11 hl (k := 0) rfl (v := nI (k + 1)) (nI_1 k) (by decide) rfl (fun ls hl => ?_)
        refine lv_goto (tgt := 2) hx hb dX1_pass_2_14 (by decide) ?_
        exact ih (k + 1) _ _ _ _ (by omega) (by omega) hQ5 hM5 hS hl
  exact L2 (n + 1) 0 _ _ gh _ (by omega) (by omega) hQ (QM.rf hQ) hS (by rw [nI_0]; exact hl)

set_option maxHeartbeats 4000000 in
theorem m_X1_pass (z : Zt) (l : Launch) {H : Heap} (hlT : l.stackTraces = false) {F : Nat → Prop} {ad : Nat → Nat → Nat} {st : St} {gh : Gh} (hQ : QW z F ad st gh H) {a : Nat} (hx9 : c1 z a (.inr (0, [.ref (ad 0 0)])) H) (hFa : ¬ F a) {n : Int32} : Xi z l yX1_pass cX1_pass 3 .int [.ref a, .int n] H 10 1 6 (fun r H1 => ∃ st1, aPass st n = (0, r, st1) ∧ XP z F ad st1 H H1) (fun E => (E = eA_ ∧ (aPass st n).1 = 1)) := by
  refine en_Xi (own := RX1) (by decide) rfl (Nat.le_of_ble_eq_true rfl) ?_
  intro ag pp ev sS mM below meth cd ls Q C hS hl hR hX
  have hx := C.1.1
  have hb := C.1.2.1
  have hl : lv_has ls 3 [(0, .ref a), (1, .int n)] := hl
  refine lv_iconst (v := 1) hx hb dX1_pass_0 (by decide) ?_
  refine lv_bipush (v := 60) hx hb dX1_pass_1 (by decide) ?_
  refine lv_iload_n hx hb dX1_pass_3 rfl (lv_at hl 1 rfl) ?_
  refine cv_X1_58 C hS (m_X1_requireFrom z l hlT) (Nat.le_of_ble_eq_true rfl) hl.1 (Nat.le_of_ble_eq_true rfl) (by omega) (by omega) dX1_pass_4 (fun E ce9 q9 H1 locs hpx hE hS h1 h2 h3 => hX _ _ _ _ _ _ _ _ _ _ h1 h2 h3 hS (by omega) (by omega) hE (⟨hpx.1, by unfold aPass; rw [inB_f hpx.2]; rfl⟩)) (fun H1 locs h_4 hz_4 hS => ?_)
  obtain ⟨e4, h4⟩ := h_4
  rw [e4] at hS ⊢
  obtain ⟨k, hk1, hk2, hk3⟩ := inB_ex (lo := 1) (hi := 60) (by omega) h4 (by omega)
  subst hk3
  have hcl : cN (nI k) = k := nI_clamp (by omega)
  refine lv_aload_n hx hb dX1_pass_7 rfl (lv_at hl 0 rfl) ?_
  refine gf_X1_39 C hx9 rfl dX1_pass_8 ?_
  refine cv_X1_166 C hQ.q hS (m_X2_people z l hQ) (Nat.le_of_ble_eq_true rfl) hl.1 (Nat.le_of_ble_eq_true rfl) (by omega) (by omega) dX1_pass_11 (fun r_11 h_11 => ?_)
  subst h_11
  refine lv_istore_n (lv' := [(2, _), (0, _), (1, _)]) hx hb dX1_pass_14 rfl hl (by decide) rfl (fun ls hl => ?_)
  refine lv_iload_n hx hb dX1_pass_15 rfl (lv_at hl 0 rfl) ?_
  refine lv_aload_n hx hb dX1_pass_16 rfl (lv_at hl 1 rfl) ?_
  refine gf_X1_39 C hx9 rfl dX1_pass_17 ?_
  refine lv_iload_n hx hb dX1_pass_20 rfl (lv_at hl 2 rfl) ?_
  refine cv_X1_182 C hS (m_X1_pass_2 z l hQ hk2) (Nat.le_of_ble_eq_true rfl) hl.1 (Nat.le_of_ble_eq_true rfl) (by omega) (by omega) dX1_pass_21 (fun r_21 H1 locs h_21 hz_21 hS => ?_)
  obtain ⟨h21, hM⟩ := h_21
  subst h21
  obtain ⟨gh1, hQ1⟩ := hM.1
  refine cv_X1_166 C hQ1.q hS (m_X2_people z l hQ1) (Nat.le_of_ble_eq_true rfl) hl.1 (Nat.le_of_ble_eq_true rfl) (by omega) (by omega) dX1_pass_24 (fun r_24 h_24 => ?_)
  subst h_24
  refine lv_isub hx hb dX1_pass_27 ?_
  exact hR _ _ _ _ _ _ _ dX1_pass_28 rfl hS (by omega) (by omega) (⟨_, by unfold aPass; rw [inB_t h4, hcl]; rfl, hM.xp⟩)

def foF (st : St) : Nat → Int32
  | 0 => sumTo (st 2) (nC st)
  | 1 => sumTo (fun k => mx 0 (st 0 k)) 108
  | _ => nI (shF (cst st) 1000)
def aForesee (st : St) (n w : Int32) : Ans := cond (inB n 1 60) (cond (inI w 3) (0, foF (passN st (cN n)) (cN w), st) (2, 0, st)) (1, 0, st)
theorem QM.exN {z : Zt} {ad : Nat → Nat → Nat} {st : St} {H H1 H2 : Heap} (h : QM z (fun q => H.size ≤ q) ad st H1 H2) (hE : Ext H H1) : Ext H H2 := ⟨by have := hE.1; have := h.2.1; omega, fun q hq => by rw [h.2.2 q (by show ¬ H.size ≤ q; omega), hE.2 q hq]⟩

set_option maxHeartbeats 4000000 in
theorem m_X1_foresee (z : Zt) (l : Launch) {H : Heap} (hlT : l.stackTraces = false) {F : Nat → Prop} {ad : Nat → Nat → Nat} {st : St} {gh : Gh} (hQ : QW z F ad st gh H) {a : Nat} (hx9 : c1 z a (.inr (0, [.ref (ad 0 0)])) H) (hFa : ¬ F a) {n w : Int32} : Xi z l yX1_foresee cX1_foresee 4 .int [.ref a, .int n, .int w] H 10 175 5497 (fun r H1 => ∃ st1, aForesee st n w = (0, r, st1) ∧ XP z F ad st1 H H1) (fun E => (E = eA_ ∧ (aForesee st n w).1 = 1) ∨ (E = eI_ ∧ (aForesee st n w).1 = 2)) := by
  refine en_Xi (own := RX1) (by decide) rfl (Nat.le_of_ble_eq_true rfl) ?_
  intro ag pp ev sS mM below meth cd ls Q C hS hl hR hX
  have hx := C.1.1
  have hb := C.1.2.1
  have hl : lv_has ls 4 [(0, .ref a), (1, .int n), (2, .int w)] := hl
  refine lv_iconst (v := 1) hx hb dX1_foresee_0 (by decide) ?_
  refine lv_bipush (v := 60) hx hb dX1_foresee_1 (by decide) ?_
  refine lv_iload_n hx hb dX1_foresee_3 rfl (lv_at hl 1 rfl) ?_
  refine cv_X1_58 C hS (m_X1_requireFrom z l hlT) (Nat.le_of_ble_eq_true rfl) hl.1 (Nat.le_of_ble_eq_true rfl) (by omega) (by omega) dX1_foresee_4 (fun E ce9 q9 H1 locs hpx hE hS h1 h2 h3 => hX _ _ _ _ _ _ _ _ _ _ h1 h2 h3 hS (by omega) (by omega) hE (Or.inl ⟨hpx.1, by unfold aForesee; rw [inB_f hpx.2]; rfl⟩)) (fun H1 locs h_4 hz_4 hS => ?_)
  obtain ⟨e4, h4⟩ := h_4
  rw [e4] at hS ⊢
  obtain ⟨k, hk1, hk2, hk3⟩ := inB_ex (lo := 1) (hi := 60) (by omega) h4 (by omega)
  subst hk3
  have hcl : cN (nI k) = k := nI_clamp (by omega)
  refine lv_iload_n hx hb dX1_foresee_7 rfl (lv_at hl 2 rfl) ?_
  refine lv_iconst (v := 3) hx hb dX1_foresee_8 (by decide) ?_
  refine cv_X1_25 C hS (m_X1_requireIndex z l hlT) (Nat.le_of_ble_eq_true rfl) hl.1 (Nat.le_of_ble_eq_true rfl) (by omega) (by omega) dX1_foresee_9 (fun E ce9 q9 H1 locs hpx hE hS h1 h2 h3 => hX _ _ _ _ _ _ _ _ _ _ h1 h2 h3 hS (by omega) (by omega) hE (Or.inr ⟨hpx.1, by unfold aForesee; rw [inB_t h4, inI_f hpx.2]; rfl⟩)) (fun H1 locs h_9 hz_9 hS => ?_)
  obtain ⟨e9, h9⟩ := h_9
  rw [e9] at hS ⊢
  obtain ⟨j, hj, hj3⟩ := cOk_ex (n := 3) (by omega) h9
  subst hj3
  have hcj : cN (nI j) = j := nI_clamp (by omega)
  have hA : aForesee st (nI k) (nI j) = (0, foF (passN st k) j, st) := by unfold aForesee; rw [inB_t h4, inI_t h9, hcl, hcj]; rfl
  refine lv_aload_n hx hb dX1_foresee_12 rfl (lv_at hl 0 rfl) ?_
  refine gf_X1_39 C hx9 rfl dX1_foresee_13 ?_
  refine cv_X1_185 C hQ.q hS (m_X2_copy z l hQ) (Nat.le_of_ble_eq_true rfl) hl.1 (Nat.le_of_ble_eq_true rfl) (by omega) (by omega) dX1_foresee_16 (fun r_16 H1 locs h_16 hz_16 hS => ?_)
  obtain ⟨h16, hE16, ad1, gh1, hQ1, ha1⟩ := h_16
  subst h16
  have hcp := m_X1_pass_2 z l hQ1 hk2
  rw [ha1] at hcp
  refine lv_iload_n hx hb dX1_foresee_19 rfl (lv_at hl 1 rfl) ?_
  refine cv_X1_182 C hS (hcp) (Nat.le_of_ble_eq_true rfl) hl.1 (Nat.le_of_ble_eq_true rfl) (by omega) (by omega) dX1_foresee_20 (fun r_20 H1 locs h_20 hz_20 hS => ?_)
  obtain ⟨h20, hM⟩ := h_20
  subst h20
  have hE20 := hM.exN hE16
  obtain ⟨gh2, hQ2⟩ := hM.1
  have hq2 := hQ2.q
  have hpe := m_X2_people z l hQ2
  have hba := m_X2_barricades z l hQ2
  have hsh := m_X2_shuts z l hQ2
  rw [ha1] at hq2 hpe hba hsh
  refine lv_astore_n (lv' := [(3, _), (0, _), (1, _), (2, _)]) hx hb dX1_foresee_23 rfl hl (by decide) rfl (fun ls hl => ?_)
  refine lv_iload_n hx hb dX1_foresee_24 rfl (lv_at hl 3 rfl) ?_
  refine lv_if_ne (tgt := 35) hx hb dX1_foresee_25 (by decide) (fun c_25 => ?_) (fun c_25 => ?_)
  · skip
    have hj0 : j ≠ 0 := fun h => c_25 (by rw [h]; rfl)
    refine lv_iload_n hx hb dX1_foresee_35 rfl (lv_at hl 3 rfl) ?_
    refine lv_iconst (v := 1) hx hb dX1_foresee_36 (by decide) ?_
    refine lv_icmp_ne (tgt := 47) hx hb dX1_foresee_37 (by decide) (fun c_37 => ?_) (fun c_37 => ?_)
    · skip
      have hj1 : j = 2 := by
        have : j ≠ 1 := fun h => c_37 (by rw [h]; rfl)
        omega
      subst hj1
      refine lv_aload_n hx hb dX1_foresee_47 rfl (lv_at hl 0 rfl) ?_
      refine cv_X1_176 C hq2 hS (hsh) (Nat.le_of_ble_eq_true rfl) hl.1 (Nat.le_of_ble_eq_true rfl) (by omega) (by omega) dX1_foresee_48 (fun r_48 H1 locs h_48 hz_48 hS => ?_)
      obtain ⟨h48, hE48⟩ := h_48
      subst h48
      have hE9 := hE20.tr hE48
      exact hR _ _ _ _ _ _ _ dX1_foresee_51 rfl hS (by omega) (by omega) (⟨_, hA, hQ.xp hE9⟩)
    · skip
      have hj1 : j = 1 := by rcases (show j = 1 ∨ j = 2 by omega) with rfl | rfl; rfl; exact absurd c_37 (by decide)
      subst hj1
      refine lv_aload_n hx hb dX1_foresee_40 rfl (lv_at hl 0 rfl) ?_
      refine cv_X1_160 C hq2 hS (hba) (Nat.le_of_ble_eq_true rfl) hl.1 (Nat.le_of_ble_eq_true rfl) (by omega) (by omega) dX1_foresee_41 (fun r_41 h_41 => ?_)
      subst h_41
      have hE9 := hE20
      refine lv_goto (tgt := 51) hx hb dX1_foresee_44 (by decide) ?_
      exact hR _ _ _ _ _ _ _ dX1_foresee_51 rfl hS (by omega) (by omega) (⟨_, hA, hQ.xp hE9⟩)
  · skip
    have hj0 : j = 0 := by rcases (show j = 0 ∨ j = 1 ∨ j = 2 by omega) with rfl | rfl | rfl; rfl; all_goals exact absurd c_25 (by decide)
    subst hj0
    refine lv_aload_n hx hb dX1_foresee_28 rfl (lv_at hl 0 rfl) ?_
    refine cv_X1_166 C hq2 hS (hpe) (Nat.le_of_ble_eq_true rfl) hl.1 (Nat.le_of_ble_eq_true rfl) (by omega) (by omega) dX1_foresee_29 (fun r_29 h_29 => ?_)
    subst h_29
    have hE9 := hE20
    refine lv_goto (tgt := 51) hx hb dX1_foresee_32 (by decide) ?_
    exact hR _ _ _ _ _ _ _ dX1_foresee_51 rfl hS (by omega) (by omega) (⟨_, hA, hQ.xp hE9⟩)

def dgT (f : Nat → Int32) : Nat → Int64 → Int64
  | 0, d => d
  | n + 1, d => dgT f n d * 31 + (f n).toInt64
def dgC (st : St) : Nat → Int64 → Int64
  | 0, d => d
  | c + 1, d => dgT (fun k => st 5 (24 * c + k)) (mC st c) (dgT (cdF st c) 8 (dgC st c d))
def dgP (st : St) : Nat → Int64 → Int64
  | 0, d => d
  | p + 1, d => dgT (gdF st p) 4 (dgP st p d)
def dig (st : St) : Int64 := dgP st (nP st) (dgC st (nC st) (dgT (st 0) 108 (dgT (coF st) 8 997)))

set_option maxHeartbeats 4000000 in
theorem m_X1_digest (z : Zt) (l : Launch) {H : Heap} {F : Nat → Prop} {ad : Nat → Nat → Nat} {st : St} {gh : Gh} (hQ : QW z F ad st gh H) {a : Nat} (hx9 : c1 z a (.inr (0, [.ref (ad 0 0)])) H) : Kl z l yX1_digest cX1_digest 7 .long [.ref a] H 6 0 0 (fun r H1 => r = dig st ∧ H1 = H) := by
  refine en_Kl rfl (own := RX1) (by decide) rfl (Nat.le_of_ble_eq_true rfl) ?_
  intro ag pp ev sS mM below meth cd ls Q C hS hl hR
  have hx := C.1.1
  have hb := C.1.2.1
  have hl : lv_has ls 7 [(0, .ref a)] := hl
  refine lv_ldc2 hx hb C.1.2.2.2.1 (C.1.2.2.2.2 _ q187) dX1_digest_0 ?_
  refine lv_lstore_n (lv' := [(1, _), (0, _)]) hx hb dX1_digest_3 rfl hl (by decide) rfl (fun ls hl => ?_)
  refine lv_iconst (v := 0) hx hb dX1_digest_4 (by decide) ?_
  refine lv_istore_n (lv' := [(3, _), (1, _), (0, _)]) hx hb dX1_digest_5 rfl hl (by decide) rfl (fun ls hl => ?_)
  have L6 : ∀ (k9 : Nat) (w : Nat) (ls : Array Slot), w ≤ 8 → 8 + 1 ≤ w + k9 → lv_has ls 7 [(3, .int (nI w)), (1, .long (dgT (coF st) w 997)), (0, .ref a)] → W pp l ev (RL 6 0 0) sS mM ag below meth cd H [] 0 0 Q (F0 mM 6 ls []) := by
    intro k9
    induction k9 with
    | zero =>
      intro w ls hw0 hw1 hl
      omega
    | succ k9 ih =>
      intro w ls hw0 hw1 hl
      have ih6 := ih
      refine lv_iload_n hx hb dX1_digest_6 rfl (lv_at hl 0 rfl) ?_
      refine lv_bipush (v := 8) hx hb dX1_digest_7 (by decide) ?_
      refine lv_icmp_ge (tgt := 31) hx hb dX1_digest_9 (by decide) (fun c_9 => ?_) (fun c_9 => ?_)
      · skip
        have hwe : w = 8 := lp_end hw0 c_9 (by omega)
        subst hwe
        obtain ⟨d1, e_d1⟩ : ∃ d, d = dgT (coF st) 8 997 := ⟨_, rfl⟩
        rw [← e_d1] at hl
        refine lv_aload_n hx hb dX1_digest_31 rfl (lv_at hl 2 rfl) ?_
        refine gf_X1_39 C hx9 rfl dX1_digest_32 ?_
        refine gf_X1_47 C hQ.q rfl dX1_digest_35 ?_
        refine lv_astore_n (lv' := [(3, _), (1, _), (0, _)]) hx hb dX1_digest_38 rfl hl (by decide) rfl (fun ls hl => ?_)
        refine lv_aload_n hx hb dX1_digest_39 rfl (lv_at hl 0 rfl) ?_
        refine g_ialen C hQ.cs dX1_digest_40 ?_
        refine lv_istore (lv' := [(4, _), (3, _), (1, _), (0, _)]) hx hb dX1_digest_41 hl (by decide) rfl (fun ls hl => ?_)
        refine lv_iconst (v := 0) hx hb dX1_digest_43 (by decide) ?_
        refine lv_istore (lv' := [(5, _), (4, _), (3, _), (1, _), (0, _)]) hx hb dX1_digest_44 hl (by decide) rfl (fun ls hl => ?_)
        have L46 : ∀ (k9 : Nat) (u : Nat) (ls : Array Slot), u ≤ 108 → 108 + 1 ≤ u + k9 → lv_has ls 7 [(5, .int (nI u)), (4, .int (nI 108)), (3, .ref (ad 1 0)), (1, .long (dgT (st 0) u d1)), (0, .ref a)] → W pp l ev (RL 6 0 0) sS mM ag below meth cd H [] 0 0 Q (F0 mM 46 ls []) := by
          intro k9
          induction k9 with
          | zero =>
            intro u ls hu0 hu1 hl
            omega
          | succ k9 ih =>
            intro u ls hu0 hu1 hl
            have ih46 := ih
            refine lv_iload hx hb dX1_digest_46 (lv_at hl 0 rfl) ?_
            refine lv_iload hx hb dX1_digest_48 (lv_at hl 1 rfl) ?_
            refine lv_icmp_ge (tgt := 75) hx hb dX1_digest_50 (by decide) (fun c_50 => ?_) (fun c_50 => ?_)
            · skip
              have hue : u = 108 := lp_end hu0 c_50 (by omega)
              subst hue
              obtain ⟨d2, e_d2⟩ : ∃ d, d = dgT (st 0) 108 d1 := ⟨_, rfl⟩
              rw [← e_d2] at hl
              refine lv_iconst (v := 0) hx hb dX1_digest_75 (by decide) ?_
              refine lv_istore_n (lv' := [(3, _), (5, _), (4, _), (1, _), (0, _)]) hx hb dX1_digest_76 rfl hl (by decide) rfl (fun ls hl => ?_)
              have L77 : ∀ (k9 : Nat) (k : Nat) (ls : Array Slot), k ≤ nC st → nC st + 1 ≤ k + k9 → lv_has ls 7 [(3, .int (nI k)), (1, .long (dgC st k d2)), (0, .ref a)] → W pp l ev (RL 6 0 0) sS mM ag below meth cd H [] 0 0 Q (F0 mM 77 ls []) := by
                intro k9
                induction k9 with
                | zero =>
                  intro k ls hk0 hk1 hl
                  omega
                | succ k9 ih =>
                  intro k ls hk0 hk1 hl
                  have ih77 := ih
                  refine lv_iload_n hx hb dX1_digest_77 rfl (lv_at hl 0 rfl) ?_
                  refine lv_aload_n hx hb dX1_digest_78 rfl (lv_at hl 2 rfl) ?_
                  refine gf_X1_39 C hx9 rfl dX1_digest_79 ?_
                  refine gf_X1_65 C hQ.q rfl dX1_digest_82 ?_
                  refine cv_X1_69 C hQ.lc hS (m_J2_size z l hQ.lc) (Nat.le_of_ble_eq_true rfl) hl.1 (Nat.le_of_ble_eq_true rfl) (by omega) (by omega) dX1_digest_85 (fun r_85 h_85 => ?_)
                  subst h_85
                  refine lv_icmp_ge (tgt := 191) hx hb dX1_digest_88 (by decide) (fun c_88 => ?_) (fun c_88 => ?_)
                  · skip
                    have hke : k = nC st := lp_end hk0 c_88 (by have := hQ.nCi; omega)
                    subst hke
                    obtain ⟨d3, e_d3⟩ : ∃ d, d = dgC st (nC st) d2 := ⟨_, rfl⟩
                    rw [← e_d3] at hl
                    refine lv_iconst (v := 0) hx hb dX1_digest_191 (by decide) ?_
                    refine lv_istore_n (lv' := [(3, _), (1, _), (0, _)]) hx hb dX1_digest_192 rfl hl (by decide) rfl (fun ls hl => ?_)
                    have L193 : ∀ (k9 : Nat) (p : Nat) (ls : Array Slot), p ≤ nP st → nP st + 1 ≤ p + k9 → lv_has ls 7 [(3, .int (nI p)), (1, .long (dgP st p d3)), (0, .ref a)] → W pp l ev (RL 6 0 0) sS mM ag below meth cd H [] 0 0 Q (F0 mM 193 ls []) := by
                      intro k9
                      induction k9 with
                      | zero =>
                        intro p ls hp0 hp1 hl
                        omega
                      | succ k9 ih =>
                        intro p ls hp0 hp1 hl
                        have ih193 := ih
                        refine lv_iload_n hx hb dX1_digest_193 rfl (lv_at hl 0 rfl) ?_
                        refine lv_aload_n hx hb dX1_digest_194 rfl (lv_at hl 2 rfl) ?_
                        refine gf_X1_39 C hx9 rfl dX1_digest_195 ?_
                        refine gf_X1_104 C hQ.q rfl dX1_digest_198 ?_
                        refine cv_X1_69 C hQ.lp hS (m_J2_size z l hQ.lp) (Nat.le_of_ble_eq_true rfl) hl.1 (Nat.le_of_ble_eq_true rfl) (by omega) (by omega) dX1_digest_201 (fun r_201 h_201 => ?_)
                        subst h_201
                        refine lv_icmp_ge (tgt := 256) hx hb dX1_digest_204 (by decide) (fun c_204 => ?_) (fun c_204 => ?_)
                        · skip
                          have hpe : p = nP st := lp_end hp0 c_204 (by have := hQ.nPi; omega)
                          refine lv_lload_n hx hb dX1_digest_256 rfl (lv_at hl 1 rfl) ?_
                          exact hR _ _ _ _ _ _ _ dX1_digest_257 hS (by omega) (by omega) (⟨by rw [hpe, e_d3, e_d2, e_d1]; rfl, rfl⟩)
                        · skip
                          have hp : p < nP st := lp_in hp0 c_204 (by have := hQ.nPi; omega)
                          refine lv_iconst (v := 0) hx hb dX1_digest_207 (by decide) ?_
                          refine lv_istore (lv' := [(4, _), (3, _), (1, _), (0, _)]) hx hb dX1_digest_208 hl (by decide) rfl (fun ls hl => ?_)
                          have L210 : ∀ (k9 : Nat) (w : Nat) (ls : Array Slot), w ≤ 4 → 4 + 1 ≤ w + k9 → lv_has ls 7 [(4, .int (nI w)), (3, .int (nI p)), (1, .long (dgT (gdF st p) w (dgP st p d3))), (0, .ref a)] → W pp l ev (RL 6 0 0) sS mM ag below meth cd H [] 0 0 Q (F0 mM 210 ls []) := by
                            intro k9
                            induction k9 with
                            | zero =>
                              intro w ls hw0 hw1 hl
                              omega
                            | succ k9 ih =>
                              intro w ls hw0 hw1 hl
                              have ih210 := ih
                              refine lv_iload hx hb dX1_digest_210 (lv_at hl 0 rfl) ?_
                              refine lv_iconst (v := 4) hx hb dX1_digest_212 (by decide) ?_
                              refine lv_icmp_ge (tgt := 250) hx hb dX1_digest_213 (by decide) (fun c_213 => ?_) (fun c_213 => ?_)
                              · skip
                                have hwe : w = 4 := lp_end hw0 c_213 (by omega)
                                have hfin : dgT (gdF st p) w (dgP st p d3) = dgP st (p + 1) d3 := by rw [hwe]; rfl
                                rw [hfin] at hl
                                refine lv_iinc (lv' := [(3, _), (4, _), (1, _), (0, _)]) hx hb dX1_digest_250 hl (k := 1) rfl (v := nI (p + 1)) (nI_1 p) (by decide) rfl (fun ls hl => ?_)
                                refine lv_goto (tgt := 193) hx hb dX1_digest_253 (by decide) ?_
                                exact ih193 (p + 1) _ (by omega) (by omega) (lv_sub hl [0, 2, 3] rfl)
                              · skip
                                have hw : w < 4 := lp_in hw0 c_213 (by omega)
                                refine lv_lload_n hx hb dX1_digest_216 rfl (lv_at hl 2 rfl) ?_
                                refine lv_ldc2 hx hb C.1.2.2.2.1 (C.1.2.2.2.2 _ q188) dX1_digest_217 ?_
                                refine lv_lmul hx hb dX1_digest_220 ?_
                                refine lv_aload_n hx hb dX1_digest_221 rfl (lv_at hl 3 rfl) ?_
                                refine lv_aload_n hx hb dX1_digest_222 rfl (lv_at hl 3 rfl) ?_
                                refine gf_X1_39 C hx9 rfl dX1_digest_223 ?_
                                refine gf_X1_104 C hQ.q rfl dX1_digest_226 ?_
                                refine lv_iload_n hx hb dX1_digest_229 rfl (lv_at hl 1 rfl) ?_
                                refine cv_X1_122 C hQ.lp hS (m_getP z l hQ hp) (Nat.le_of_ble_eq_true rfl) hl.1 (Nat.le_of_ble_eq_true rfl) (by omega) (by omega) dX1_digest_230 (fun r_230 h_230 => ?_)
                                subst h_230
                                refine va_castE hx hb C.1.2.2.2.1 (C.1.2.2.2.2 _ q243) ((hQ.p hp).recv C.2.1 rfl) dX1_digest_233 ?_
                                refine lv_iload hx hb dX1_digest_236 (lv_at hl 0 rfl) ?_
                                refine cv_X1_149 C hx9 hS (m_X1_patrolTold z l hQ hx9 hp hw) (Nat.le_of_ble_eq_true rfl) hl.1 (Nat.le_of_ble_eq_true rfl) (by omega) (by omega) dX1_digest_238 (fun r_238 h_238 => ?_)
                                subst h_238
                                refine lv_i2l hx hb dX1_digest_241 rfl ?_
                                refine lv_ladd hx hb dX1_digest_242 ?_
                                refine lv_setl (y := dgT (gdF st p) (w + 1) (dgP st p d3)) rfl ?_
                                refine lv_lstore_n (lv' := [(1, _), (4, _), (3, _), (0, _)]) hx hb dX1_digest_243 rfl hl (by decide) rfl (fun ls hl => ?_)
                                refine lv_iinc (lv' := [(4, _), (1, _), (3, _), (0, _)]) hx hb dX1_digest_244 hl (k := 1) rfl (v := nI (w + 1)) (nI_1 w) (by decide) rfl (fun ls hl => ?_)
                                refine lv_goto (tgt := 210) hx hb dX1_digest_247 (by decide) ?_
                                exact ih210 (w + 1) _ (by omega) (by omega) (lv_sub hl [0, 2, 1, 3] rfl)
                          exact L210 5 0 _ (by omega) (by omega) (by rw [nI_0]; exact hl)
                    exact L193 (nP st + 1) 0 _ (by omega) (by omega) (by rw [nI_0]; exact hl)
                  · skip
                    have hk : k < nC st := lp_in hk0 c_88 (by have := hQ.nCi; omega)
                    refine lv_aload_n hx hb dX1_digest_91 rfl (lv_at hl 2 rfl) ?_
                    refine gf_X1_39 C hx9 rfl dX1_digest_92 ?_
                    refine gf_X1_65 C hQ.q rfl dX1_digest_95 ?_
                    refine lv_iload_n hx hb dX1_digest_98 rfl (lv_at hl 0 rfl) ?_
                    refine cv_X1_122 C hQ.lc hS (m_getC z l hQ hk) (Nat.le_of_ble_eq_true rfl) hl.1 (Nat.le_of_ble_eq_true rfl) (by omega) (by omega) dX1_digest_99 (fun r_99 h_99 => ?_)
                    subst h_99
                    refine va_castE hx hb C.1.2.2.2.1 (C.1.2.2.2.2 _ q210) ((hQ.c hk).recv C.2.1 rfl) dX1_digest_102 ?_
                    refine lv_astore (lv' := [(4, _), (3, _), (1, _), (0, _)]) hx hb dX1_digest_105 hl (by decide) rfl (fun ls hl => ?_)
                    refine lv_iconst (v := 0) hx hb dX1_digest_107 (by decide) ?_
                    refine lv_istore (lv' := [(5, _), (4, _), (3, _), (1, _), (0, _)]) hx hb dX1_digest_108 hl (by decide) rfl (fun ls hl => ?_)
                    have L110 : ∀ (k9 : Nat) (w : Nat) (ls : Array Slot), w ≤ 8 → 8 + 1 ≤ w + k9 → lv_has ls 7 [(5, .int (nI w)), (4, .ref (ad 4 k)), (3, .int (nI k)), (1, .long (dgT (cdF st k) w (dgC st k d2))), (0, .ref a)] → W pp l ev (RL 6 0 0) sS mM ag below meth cd H [] 0 0 Q (F0 mM 110 ls []) := by
                      intro k9
                      induction k9 with
                      | zero =>
                        intro w ls hw0 hw1 hl
                        omega
                      | succ k9 ih =>
                        intro w ls hw0 hw1 hl
                        have ih110 := ih
                        refine lv_iload hx hb dX1_digest_110 (lv_at hl 0 rfl) ?_
                        refine lv_bipush (v := 8) hx hb dX1_digest_112 (by decide) ?_
                        refine lv_icmp_ge (tgt := 139) hx hb dX1_digest_114 (by decide) (fun c_114 => ?_) (fun c_114 => ?_)
                        · skip
                          have hwe : w = 8 := lp_end hw0 c_114 (by omega)
                          subst hwe
                          obtain ⟨d4, e_d4⟩ : ∃ d, d = dgT (cdF st k) 8 (dgC st k d2) := ⟨_, rfl⟩
                          rw [← e_d4] at hl
                          have hmc := hQ.mCi hk
                          refine lv_iconst (v := 0) hx hb dX1_digest_139 (by decide) ?_
                          refine lv_istore (lv' := [(5, _), (4, _), (3, _), (1, _), (0, _)]) hx hb dX1_digest_140 hl (by decide) rfl (fun ls hl => ?_)
                          have L142 : ∀ (k9 : Nat) (o : Nat) (ls : Array Slot), o ≤ mC st k → mC st k + 1 ≤ o + k9 → lv_has ls 7 [(5, .int (nI o)), (4, .ref (ad 4 k)), (3, .int (nI k)), (1, .long (dgT (fun i => st 5 (24 * k + i)) o d4)), (0, .ref a)] → W pp l ev (RL 6 0 0) sS mM ag below meth cd H [] 0 0 Q (F0 mM 142 ls []) := by
                            intro k9
                            induction k9 with
                            | zero =>
                              intro o ls ho0 ho1 hl
                              omega
                            | succ k9 ih =>
                              intro o ls ho0 ho1 hl
                              have ih142 := ih
                              refine lv_iload hx hb dX1_digest_142 (lv_at hl 0 rfl) ?_
                              refine lv_aload hx hb dX1_digest_144 (lv_at hl 1 rfl) ?_
                              refine gf_X1_91 C (hQ.c hk) rfl dX1_digest_146 ?_
                              refine cv_X1_69 C (hQ.lo hk) hS (m_J2_size z l (hQ.lo hk)) (Nat.le_of_ble_eq_true rfl) hl.1 (Nat.le_of_ble_eq_true rfl) (by omega) (by omega) dX1_digest_149 (fun r_149 h_149 => ?_)
                              subst h_149
                              refine lv_icmp_ge (tgt := 185) hx hb dX1_digest_152 (by decide) (fun c_152 => ?_) (fun c_152 => ?_)
                              · skip
                                have hoe : o = mC st k := lp_end ho0 c_152 (by omega)
                                have hfin : dgT (fun i => st 5 (24 * k + i)) o d4 = dgC st (k + 1) d2 := by rw [hoe, e_d4]; rfl
                                rw [hfin] at hl
                                refine lv_iinc (lv' := [(3, _), (5, _), (4, _), (1, _), (0, _)]) hx hb dX1_digest_185 hl (k := 2) rfl (v := nI (k + 1)) (nI_1 k) (by decide) rfl (fun ls hl => ?_)
                                refine lv_goto (tgt := 77) hx hb dX1_digest_188 (by decide) ?_
                                exact ih77 (k + 1) _ (by omega) (by omega) (lv_sub hl [0, 3, 4] rfl)
                              · skip
                                have ho : o < mC st k := lp_in ho0 c_152 (by omega)
                                have hob := ((hQ.inv.2.2.1 k hk).2.2.2.2 o ho).cl (by omega)
                                refine lv_lload_n hx hb dX1_digest_155 rfl (lv_at hl 3 rfl) ?_
                                refine lv_ldc2 hx hb C.1.2.2.2.1 (C.1.2.2.2.2 _ q188) dX1_digest_156 ?_
                                refine lv_lmul hx hb dX1_digest_159 ?_
                                refine lv_aload hx hb dX1_digest_160 (lv_at hl 1 rfl) ?_
                                refine gf_X1_91 C (hQ.c hk) rfl dX1_digest_162 ?_
                                refine lv_iload hx hb dX1_digest_165 (lv_at hl 0 rfl) ?_
                                refine cv_X1_122 C (hQ.lo hk) hS (m_getO z l hQ hk ho) (Nat.le_of_ble_eq_true rfl) hl.1 (Nat.le_of_ble_eq_true rfl) (by omega) (by omega) dX1_digest_167 (fun r_167 h_167 => ?_)
                                subst h_167
                                refine va_castE hx hb C.1.2.2.2.1 (C.1.2.2.2.2 _ q219) (C.recvI hS (by omega)) dX1_digest_170 ?_
                                refine cv_X1_123 C (C.recvI hS (by omega)) hS (m_J17_intValue z l (by omega)) (Nat.le_of_ble_eq_true rfl) hl.1 (Nat.le_of_ble_eq_true rfl) (by omega) (by omega) dX1_digest_173 (fun r_173 h_173 => ?_)
                                subst h_173
                                refine lv_seti (y := st 5 (24 * k + o)) hob.1.symm ?_
                                refine lv_i2l hx hb dX1_digest_176 rfl ?_
                                refine lv_ladd hx hb dX1_digest_177 ?_
                                refine lv_setl (y := dgT (fun i => st 5 (24 * k + i)) (o + 1) d4) rfl ?_
                                refine lv_lstore_n (lv' := [(1, _), (5, _), (4, _), (3, _), (0, _)]) hx hb dX1_digest_178 rfl hl (by decide) rfl (fun ls hl => ?_)
                                refine lv_iinc (lv' := [(5, _), (1, _), (4, _), (3, _), (0, _)]) hx hb dX1_digest_179 hl (k := 1) rfl (v := nI (o + 1)) (nI_1 o) (by decide) rfl (fun ls hl => ?_)
                                refine lv_goto (tgt := 142) hx hb dX1_digest_182 (by decide) ?_
                                exact ih142 (o + 1) _ (by omega) (by omega) (lv_sub hl [0, 2, 3, 1, 4] rfl)
                          exact L142 (mC st k + 1) 0 _ (by omega) (by omega) (by rw [nI_0]; exact hl)
                        · skip
                          have hw : w < 8 := lp_in hw0 c_114 (by omega)
                          refine lv_lload_n hx hb dX1_digest_117 rfl (lv_at hl 3 rfl) ?_
                          refine lv_ldc2 hx hb C.1.2.2.2.1 (C.1.2.2.2.2 _ q188) dX1_digest_118 ?_
                          refine lv_lmul hx hb dX1_digest_121 ?_
                          refine lv_aload_n hx hb dX1_digest_122 rfl (lv_at hl 4 rfl) ?_
                          refine lv_aload hx hb dX1_digest_123 (lv_at hl 1 rfl) ?_
                          refine lv_iload hx hb dX1_digest_125 (lv_at hl 0 rfl) ?_
                          refine cv_X1_133 C hx9 hS (m_X1_crowdTold z l hQ hx9 hk hw) (Nat.le_of_ble_eq_true rfl) hl.1 (Nat.le_of_ble_eq_true rfl) (by omega) (by omega) dX1_digest_127 (fun r_127 h_127 => ?_)
                          subst h_127
                          refine lv_i2l hx hb dX1_digest_130 rfl ?_
                          refine lv_ladd hx hb dX1_digest_131 ?_
                          refine lv_setl (y := dgT (cdF st k) (w + 1) (dgC st k d2)) rfl ?_
                          refine lv_lstore_n (lv' := [(1, _), (5, _), (4, _), (3, _), (0, _)]) hx hb dX1_digest_132 rfl hl (by decide) rfl (fun ls hl => ?_)
                          refine lv_iinc (lv' := [(5, _), (1, _), (4, _), (3, _), (0, _)]) hx hb dX1_digest_133 hl (k := 1) rfl (v := nI (w + 1)) (nI_1 w) (by decide) rfl (fun ls hl => ?_)
                          refine lv_goto (tgt := 110) hx hb dX1_digest_136 (by decide) ?_
                          exact ih110 (w + 1) _ (by omega) (by omega) (lv_sub hl [0, 2, 3, 1, 4] rfl)
                    exact L110 9 0 _ (by omega) (by omega) (by rw [nI_0]; exact hl)
              exact L77 (nC st + 1) 0 _ (by omega) (by omega) (by rw [nI_0]; exact lv_sub hl [0, 3, 4] rfl)
            · skip
              have hu : u < 108 := lp_in hu0 c_50 (by omega)
              refine lv_aload_n hx hb dX1_digest_53 rfl (lv_at hl 2 rfl) ?_
              refine lv_iload hx hb dX1_digest_54 (lv_at hl 0 rfl) ?_
              refine g_iald C hQ.cs (vp_in_nI hu (by omega)) dX1_digest_56 ?_
              rw [nI_clamp (by omega)]
              refine lv_istore (lv' := [(6, _), (5, _), (4, _), (3, _), (1, _), (0, _)]) hx hb dX1_digest_57 hl (by decide) rfl (fun ls hl => ?_)
              refine lv_lload_n hx hb dX1_digest_59 rfl (lv_at hl 4 rfl) ?_
              refine lv_ldc2 hx hb C.1.2.2.2.1 (C.1.2.2.2.2 _ q188) dX1_digest_60 ?_
              refine lv_lmul hx hb dX1_digest_63 ?_
              refine lv_iload hx hb dX1_digest_64 (lv_at hl 0 rfl) ?_
              refine lv_i2l hx hb dX1_digest_66 rfl ?_
              refine lv_ladd hx hb dX1_digest_67 ?_
              refine lv_setl (y := dgT (st 0) (u + 1) d1) rfl ?_
              refine lv_lstore_n (lv' := [(1, _), (6, _), (5, _), (4, _), (3, _), (0, _)]) hx hb dX1_digest_68 rfl hl (by decide) rfl (fun ls hl => ?_)
              refine lv_iinc (lv' := [(5, _), (1, _), (6, _), (4, _), (3, _), (0, _)]) hx hb dX1_digest_69 hl (k := 2) rfl (v := nI (u + 1)) (nI_1 u) (by decide) rfl (fun ls hl => ?_)
              refine lv_goto (tgt := 46) hx hb dX1_digest_72 (by decide) ?_
              exact ih46 (u + 1) _ (by omega) (by omega) (lv_sub hl [0, 3, 4, 1, 5] rfl)
        exact L46 109 0 _ (by omega) (by omega) (by rw [nI_0]; exact hl)
      · skip
        have hw : w < 8 := lp_in hw0 c_9 (by omega)
        refine lv_lload_n hx hb dX1_digest_12 rfl (lv_at hl 1 rfl) ?_
        refine lv_ldc2 hx hb C.1.2.2.2.1 (C.1.2.2.2.2 _ q188) dX1_digest_13 ?_
        refine lv_lmul hx hb dX1_digest_16 ?_
        refine lv_aload_n hx hb dX1_digest_17 rfl (lv_at hl 2 rfl) ?_
        refine lv_iload_n hx hb dX1_digest_18 rfl (lv_at hl 0 rfl) ?_
        refine cv_X1_170 C hx9 hS (m_X1_counted z l hQ hx9 hw) (Nat.le_of_ble_eq_true rfl) hl.1 (Nat.le_of_ble_eq_true rfl) (by omega) (by omega) dX1_digest_19 (fun r_19 h_19 => ?_)
        subst h_19
        refine lv_i2l hx hb dX1_digest_22 rfl ?_
        refine lv_ladd hx hb dX1_digest_23 ?_
        refine lv_setl (y := dgT (coF st) (w + 1) 997) rfl ?_
        refine lv_lstore_n (lv' := [(1, _), (3, _), (0, _)]) hx hb dX1_digest_24 rfl hl (by decide) rfl (fun ls hl => ?_)
        refine lv_iinc (lv' := [(3, _), (1, _), (0, _)]) hx hb dX1_digest_25 hl (k := 1) rfl (v := nI (w + 1)) (nI_1 w) (by decide) rfl (fun ls hl => ?_)
        refine lv_goto (tgt := 6) hx hb dX1_digest_28 (by decide) ?_
        exact ih6 (w + 1) _ (by omega) (by omega) hl
  exact L6 9 0 _ (by omega) (by omega) (by rw [nI_0]; exact hl)

