set_option maxRecDepth 100000
/-! what a call answers: 0 or the number of what it throws, the value, the state behind it -/
abbrev Ans : Type := Nat × Int32 × St
def inI (i n : Int32) : Bool := decide (0 ≤ i) && decide (i < n)
def inB (v lo hi : Int32) : Bool := decide (lo ≤ v) && decide (v ≤ hi)
def ceB (x y : Int32) : Bool := inI x 12 && inI y 9
theorem inI_t {i n : Int32} (h : cOk i n) : inI i n = true := by unfold inI; rw [decide_eq_true h.1, decide_eq_true h.2]; rfl
theorem inI_f {i n : Int32} (h : ¬ cOk i n) : inI i n = false := by
  unfold inI
  by_cases h1 : 0 ≤ i
  · rw [decide_eq_true h1, decide_eq_false (fun h2 => h ⟨h1, h2⟩)]; rfl
  · rw [decide_eq_false h1]; rfl
theorem inB_t {v lo hi : Int32} (h : lo ≤ v ∧ v ≤ hi) : inB v lo hi = true := by unfold inB; rw [decide_eq_true h.1, decide_eq_true h.2]; rfl
theorem inB_f {v lo hi : Int32} (h : ¬ (lo ≤ v ∧ v ≤ hi)) : inB v lo hi = false := by
  unfold inB
  by_cases h1 : lo ≤ v
  · rw [decide_eq_true h1, decide_eq_false (fun h2 => h ⟨h1, h2⟩)]; rfl
  · rw [decide_eq_false h1]; rfl
theorem ceB_t {x y : Int32} (h : ceOk x y) : ceB x y = true := by unfold ceB; rw [inI_t h.1, inI_t h.2]; rfl
theorem ceB_f {x y : Int32} (h : ¬ ceOk x y) : ceB x y = false := by
  unfold ceB
  by_cases h1 : cOk x 12
  · rw [inI_t h1, inI_f (fun h2 => h ⟨h1, h2⟩)]; rfl
  · rw [inI_f h1]; rfl
def hoG (st : St) (x y : Int32) : Bool := decide (st 0 (cN (ce x y)) ≤ 0) && !(bzB st (ce x y))
def hoV (st : St) (k : Nat) : Int32 := if st 0 k = -1 then 0 else -1
def aHouse (st : St) (x y : Int32) : Ans := cond (ceB x y) (cond (hoG st x y) (0, bI (hoV st (cN (ce x y)) == -1), sSet st 0 (cN (ce x y)) (hoV st (cN (ce x y)))) (2, 0, st)) (1, 0, st)
def blG (st : St) (x y : Int32) : Bool := laB st (ce x y) && !(bzB st (ce x y))
def aBlock (st : St) (x y b : Int32) : Ans := cond (ceB x y) (cond (inB b 0 3) (cond (blG st x y) (0, st 0 (cN (ce x y)), sSet st 0 (cN (ce x y)) b) (3, 0, st)) (2, 0, st)) (1, 0, st)
def aCell (st : St) (x y : Int32) : Ans := cond (ceB x y) (0, st 0 (cN (ce x y)), st) (1, 0, st)
def aTorch (st : St) (c : Int32) : Ans := cond (inI c (nI (nC st))) (cond (decide (0 < st 2 (cN c))) (0, 1 - st 3 (cN c), sSet st 3 (cN c) (1 - st 3 (cN c))) (2, 0, st)) (1, 0, st)
theorem cv_m1 : CV (-1) := ⟨0, by omega, by decide⟩
theorem cv_ho (st : St) (k : Nat) : CV (hoV st k) := by unfold hoV; split; exact cv_0; exact cv_m1
theorem cv_bl {b : Int32} (h : 0 ≤ b ∧ b ≤ 3) : CV b := by
  have h4 : cOk b (nI 4) := ⟨h.1, by
    have h2 : b.toInt ≤ 3 := Int32.le_iff_toInt_le.mp h.2
    exact Int32.lt_iff_toInt_lt.mpr (show b.toInt < 4 by omega)⟩
  obtain ⟨k, hk, rfl⟩ := cOk_ex (by omega) h4
  exact ⟨k + 1, by omega, nI_1 k⟩
theorem bd2 {v : Int32} (h : Bd v 2) : v = 0 ∨ v = 1 := by
  obtain ⟨j, hj, rfl⟩ := h
  rcases (show j = 0 ∨ j = 1 by omega) with rfl | rfl
  · exact Or.inl rfl
  · exact Or.inr rfl
/-- behind a call of the component: its quarter in the state st', its other cells new or among the old ones -/
def XP (z : Zt) (F : Nat → Prop) (ad : Nat → Nat → Nat) (st' : St) (H H1 : Heap) : Prop := ∃ F' ad' gh', QW z F' ad' st' gh' H1 ∧ ad' 0 0 = ad 0 0 ∧ (∀ q, F' q → F q ∨ H.size ≤ q) ∧ ∀ q, q < H.size → ¬ F q → H1[q]? = H[q]?
section XPL
variable {z : Zt} {F : Nat → Prop} {ad : Nat → Nat → Nat} {st : St} {gh : Gh} {H H1 : Heap}
theorem QM.xp {st' : St} (h : QM z F ad st' H H1) : XP z F ad st' H H1 := by
  obtain ⟨⟨gh', h1⟩, h2, h3⟩ := h
  exact ⟨F, ad, gh', h1, rfl, fun q hq => Or.inl hq, fun q _ hq => h3 q hq⟩
theorem QW.xp (h : QW z F ad st gh H) (hE : Ext H H1) : XP z F ad st H H1 := ⟨F, ad, gh, h.ext hE, rfl, fun q hq => Or.inl hq, fun q hq _ => hE.2 q hq⟩
end XPL
theorem m_knC (z : Zt) (l : Launch) (hlT : l.stackTraces = false) {H : Heap} {F : Nat → Prop} {ad : Nat → Nat → Nat} {st : St} {gh : Gh} (hQ : QW z F ad st gh H) {i : Int32} : Xq z l yX1_known cX1_known 2 (.object "java/lang/Object") [.ref (ad 2 0), .int i] H 7 1 6 (fun r H1 => H1 = H ∧ ∃ k, k < nC st ∧ i = nI k ∧ r = some (ad 4 k)) (fun E => E = eI_ ∧ ¬ cOk i (nI (nC st))) := by
  have h := m_X1_known z l hlT (i := i) hQ.lc (fun h0 => hQ.ea (i := 0) (by omega) (hQ.c0 h0)) (hQ.cap (i := 0) (by omega)).1 (by have := (hQ.cap (i := 0) (by omega)).2; omega)
  have e : (fun (r : Option Nat) (H1 : Heap) => H1 = H ∧ ∃ k, k < nC st ∧ i = nI k ∧ r = qel z ad st 0 k) = (fun r H1 => H1 = H ∧ ∃ k, k < nC st ∧ i = nI k ∧ r = some (ad 4 k)) := by
    funext r H1
    exact propext ⟨fun ⟨h1, k, h2, h3, h4⟩ => ⟨h1, k, h2, h3, by rw [h4, QW.el0 h2]⟩, fun ⟨h1, k, h2, h3, h4⟩ => ⟨h1, k, h2, h3, by rw [h4, QW.el0 h2]⟩⟩
  rw [e] at h
  exact h
theorem m_knP (z : Zt) (l : Launch) (hlT : l.stackTraces = false) {H : Heap} {F : Nat → Prop} {ad : Nat → Nat → Nat} {st : St} {gh : Gh} (hQ : QW z F ad st gh H) {i : Int32} : Xq z l yX1_known cX1_known 2 (.object "java/lang/Object") [.ref (ad 2 1), .int i] H 7 1 6 (fun r H1 => H1 = H ∧ ∃ k, k < nP st ∧ i = nI k ∧ r = some (ad 5 k)) (fun E => E = eI_ ∧ ¬ cOk i (nI (nP st))) := by
  have h := m_X1_known z l hlT (i := i) hQ.lp (fun h0 => hQ.ea (i := 1) (by omega) (hQ.c1' h0)) (hQ.cap (i := 1) (by omega)).1 (by have := (hQ.cap (i := 1) (by omega)).2; omega)
  have e : (fun (r : Option Nat) (H1 : Heap) => H1 = H ∧ ∃ k, k < nP st ∧ i = nI k ∧ r = qel z ad st 1 k) = (fun r H1 => H1 = H ∧ ∃ k, k < nP st ∧ i = nI k ∧ r = some (ad 5 k)) := by
    funext r H1
    exact propext ⟨fun ⟨h1, k, h2, h3, h4⟩ => ⟨h1, k, h2, h3, by rw [h4, QW.el1 h2]⟩, fun ⟨h1, k, h2, h3, h4⟩ => ⟨h1, k, h2, h3, by rw [h4, QW.el1 h2]⟩⟩
  rw [e] at h
  exact h

set_option maxHeartbeats 4000000 in
theorem m_X1_house (z : Zt) (l : Launch) {H : Heap} (hlT : l.stackTraces = false) {F : Nat → Prop} {ad : Nat → Nat → Nat} {st : St} {gh : Gh} (hQ : QW z F ad st gh H) {a : Nat} (hx9 : c1 z a (.inr (0, [.ref (ad 0 0)])) H) (hFa : ¬ F a) {x y : Int32} : Xi z l yX1_house cX1_house 4 .boolean [.ref a, .int x, .int y] H 8 3 18 (fun r H1 => ∃ st1, aHouse st x y = (0, r, st1) ∧ XP z F ad st1 H H1) (fun E => (E = eI_ ∧ (aHouse st x y).1 = 1) ∨ (E = eS_ ∧ (aHouse st x y).1 = 2)) := by
  refine en_Xi (own := RX1) (by decide) rfl (Nat.le_of_ble_eq_true rfl) ?_
  intro ag pp ev sS mM below meth cd ls Q C hS hl hR hX
  have hx := C.1.1
  have hb := C.1.2.1
  have hl : lv_has ls 4 [(0, .ref a), (1, .int x), (2, .int y)] := hl
  refine lv_iload_n hx hb dX1_house_0 rfl (lv_at hl 1 rfl) ?_
  refine lv_iload_n hx hb dX1_house_1 rfl (lv_at hl 2 rfl) ?_
  refine cv_X1_43 C hS (m_X1_cellAt z l hlT) (Nat.le_of_ble_eq_true rfl) hl.1 (Nat.le_of_ble_eq_true rfl) (by omega) (by omega) dX1_house_2 (fun E ce9 q9 H1 locs hpx hE hS h1 h2 h3 => hX _ _ _ _ _ _ _ _ _ _ h1 h2 h3 hS (by omega) (by omega) hE (Or.inl ⟨hpx.1, by unfold aHouse; rw [ceB_f hpx.2]; rfl⟩)) (fun r_2 H1 locs h_2 hz_2 hS => ?_)
  obtain ⟨e2, h2, hce⟩ := h_2
  rw [e2] at hS ⊢
  subst h2
  have hB := ce_Bd hce
  refine lv_istore_n (lv' := [(3, _), (0, _), (1, _), (2, _)]) hx hb dX1_house_5 rfl hl (by decide) rfl (fun ls hl => ?_)
  refine lv_aload_n hx hb dX1_house_6 rfl (lv_at hl 1 rfl) ?_
  refine gf_X1_39 C hx9 rfl dX1_house_7 ?_
  refine gf_X1_47 C hQ.q rfl dX1_house_10 ?_
  refine lv_iload_n hx hb dX1_house_13 rfl (lv_at hl 0 rfl) ?_
  refine g_iald C hQ.cs (hB.in (by omega) (by omega)) dX1_house_14 ?_
  refine lv_if_gt (tgt := 33) hx hb dX1_house_15 (by decide) (fun c_15 => ?_) (fun c_15 => ?_)
  · skip
    have hg : hoG st x y = false := by unfold hoG cN; rw [decide_eq_false (Int32.not_le.mpr c_15)]; rfl
    refine lv_iconst (v := 0) hx hb dX1_house_33 (by decide) ?_
    refine cv_X1_55 C hS (m_X1_requireState z l hlT) (Nat.le_of_ble_eq_true rfl) hl.1 (Nat.le_of_ble_eq_true rfl) (by omega) (by omega) dX1_house_34 (fun E ce9 q9 H1 locs hpx hE hS h1 h2 h3 => hX _ _ _ _ _ _ _ _ _ _ h1 h2 h3 hS (by omega) (by omega) hE (Or.inr ⟨hpx.1, by unfold aHouse; rw [ceB_t hce, hg]; rfl⟩)) (fun H1 locs h_34 hz_34 hS => ?_)
    exact absurd rfl h_34.2
  · skip
    refine lv_aload_n hx hb dX1_house_18 rfl (lv_at hl 1 rfl) ?_
    refine gf_X1_39 C hx9 rfl dX1_house_19 ?_
    refine lv_iload_n hx hb dX1_house_22 rfl (lv_at hl 0 rfl) ?_
    refine cv_X1_51 C hQ.q hS (m_X2_isTaken z l hQ) (Nat.le_of_ble_eq_true rfl) hl.1 (Nat.le_of_ble_eq_true rfl) (by omega) (by omega) dX1_house_23 (fun r_23 h_23 => ?_)
    subst h_23
    refine lv_if_ne (tgt := 33) hx hb dX1_house_26 (by decide) (fun c_26 => ?_) (fun c_26 => ?_)
    · skip
      have hg : hoG st x y = false := by unfold hoG cN; rw [bI_t c_26, Bool.not_true, Bool.and_false]
      refine lv_iconst (v := 0) hx hb dX1_house_33 (by decide) ?_
      refine cv_X1_55 C hS (m_X1_requireState z l hlT) (Nat.le_of_ble_eq_true rfl) hl.1 (Nat.le_of_ble_eq_true rfl) (by omega) (by omega) dX1_house_34 (fun E ce9 q9 H1 locs hpx hE hS h1 h2 h3 => hX _ _ _ _ _ _ _ _ _ _ h1 h2 h3 hS (by omega) (by omega) hE (Or.inr ⟨hpx.1, by unfold aHouse; rw [ceB_t hce, hg]; rfl⟩)) (fun H1 locs h_34 hz_34 hS => ?_)
      exact absurd rfl h_34.2
    · skip
      have hg : hoG st x y = true := by unfold hoG cN; rw [bI_f c_26, decide_eq_true (Int32.not_lt.mp c_15)]; rfl
      refine lv_iconst (v := 1) hx hb dX1_house_29 (by decide) ?_
      refine lv_goto (tgt := 34) hx hb dX1_house_30 (by decide) ?_
      refine cv_X1_55 C hS (m_X1_requireState z l hlT) (Nat.le_of_ble_eq_true rfl) hl.1 (Nat.le_of_ble_eq_true rfl) (by omega) (by omega) dX1_house_34 (fun E ce9 q9 H1 locs hpx hE hS h1 h2 h3 => hX _ _ _ _ _ _ _ _ _ _ h1 h2 h3 hS (by omega) (by omega) hE (absurd hpx.2 (by decide))) (fun H1 locs h_34 hz_34 hS => ?_)
      obtain ⟨e34, h34⟩ := h_34
      rw [e34] at hS ⊢
      refine lv_aload_n hx hb dX1_house_37 rfl (lv_at hl 1 rfl) ?_
      refine gf_X1_39 C hx9 rfl dX1_house_38 ?_
      refine gf_X1_47 C hQ.q rfl dX1_house_41 ?_
      refine lv_iload_n hx hb dX1_house_44 rfl (lv_at hl 0 rfl) ?_
      refine lv_aload_n hx hb dX1_house_45 rfl (lv_at hl 1 rfl) ?_
      refine gf_X1_39 C hx9 rfl dX1_house_46 ?_
      refine gf_X1_47 C hQ.q rfl dX1_house_49 ?_
      refine lv_iload_n hx hb dX1_house_52 rfl (lv_at hl 0 rfl) ?_
      refine g_iald C hQ.cs (hB.in (by omega) (by omega)) dX1_house_53 ?_
      refine lv_iconst (v := (-1)) hx hb dX1_house_54 (by decide) ?_
      refine lv_icmp_ne (tgt := 62) hx hb dX1_house_55 (by decide) (fun c_55 => ?_) (fun c_55 => ?_)
      · skip
        refine lv_iconst (v := (-1)) hx hb dX1_house_62 (by decide) ?_
        refine lv_seti (y := hoV st (cN (ce x y))) (by unfold hoV cN; first | rw [if_pos c_55] | rw [if_neg c_55] | rw [if_pos (by simpa using c_55)]) ?_
        refine g_iast C hQ.cs (hB.in (by omega) (by omega)) hS (hQ.aa (k := 1) (i := 0) rfl) dX1_house_63 (fun H1 locs hu hS => ?_)
        have hM := hQ.set0 (k := cN (ce x y)) (cv_ho st _) hu
        obtain ⟨gh1, hQ1⟩ := hM.1
        have hx1 := hx9.kept (hM.2.2 a hFa)
        refine lv_aload_n hx hb dX1_house_64 rfl (lv_at hl 1 rfl) ?_
        refine gf_X1_39 C hx1 rfl dX1_house_65 ?_
        refine gf_X1_47 C hQ1.q rfl dX1_house_68 ?_
        refine lv_iload_n hx hb dX1_house_71 rfl (lv_at hl 0 rfl) ?_
        refine g_iald C hQ1.cs (hB.in (by omega) (by omega)) dX1_house_72 ?_
        refine lv_seti (y := hoV st (cN (ce x y))) (sSet_same ..) ?_
        refine lv_iconst (v := (-1)) hx hb dX1_house_73 (by decide) ?_
        refine lv_icmp_ne (tgt := 81) hx hb dX1_house_74 (by decide) (fun c_74 => ?_) (fun c_74 => ?_)
        · skip
          have h74 : (hoV st (cN (ce x y)) == -1) = false := by simpa using c_74
          refine lv_iconst (v := 0) hx hb dX1_house_81 (by decide) ?_
          exact hR _ _ _ _ _ _ _ dX1_house_82 rfl hS (by omega) (by omega) (⟨_, by unfold aHouse; rw [ceB_t hce, hg, h74]; rfl, hM.xp⟩)
        · skip
          have h74 : (hoV st (cN (ce x y)) == -1) = true := by simpa using c_74
          refine lv_iconst (v := 1) hx hb dX1_house_77 (by decide) ?_
          refine lv_goto (tgt := 82) hx hb dX1_house_78 (by decide) ?_
          exact hR _ _ _ _ _ _ _ dX1_house_82 rfl hS (by omega) (by omega) (⟨_, by unfold aHouse; rw [ceB_t hce, hg, h74]; rfl, hM.xp⟩)
      · skip
        refine lv_iconst (v := 0) hx hb dX1_house_58 (by decide) ?_
        refine lv_goto (tgt := 63) hx hb dX1_house_59 (by decide) ?_
        refine lv_seti (y := hoV st (cN (ce x y))) (by unfold hoV cN; first | rw [if_pos c_55] | rw [if_neg c_55] | rw [if_pos (by simpa using c_55)]) ?_
        refine g_iast C hQ.cs (hB.in (by omega) (by omega)) hS (hQ.aa (k := 1) (i := 0) rfl) dX1_house_63 (fun H1 locs hu hS => ?_)
        have hM := hQ.set0 (k := cN (ce x y)) (cv_ho st _) hu
        obtain ⟨gh1, hQ1⟩ := hM.1
        have hx1 := hx9.kept (hM.2.2 a hFa)
        refine lv_aload_n hx hb dX1_house_64 rfl (lv_at hl 1 rfl) ?_
        refine gf_X1_39 C hx1 rfl dX1_house_65 ?_
        refine gf_X1_47 C hQ1.q rfl dX1_house_68 ?_
        refine lv_iload_n hx hb dX1_house_71 rfl (lv_at hl 0 rfl) ?_
        refine g_iald C hQ1.cs (hB.in (by omega) (by omega)) dX1_house_72 ?_
        refine lv_seti (y := hoV st (cN (ce x y))) (sSet_same ..) ?_
        refine lv_iconst (v := (-1)) hx hb dX1_house_73 (by decide) ?_
        refine lv_icmp_ne (tgt := 81) hx hb dX1_house_74 (by decide) (fun c_74 => ?_) (fun c_74 => ?_)
        · skip
          have h74 : (hoV st (cN (ce x y)) == -1) = false := by simpa using c_74
          refine lv_iconst (v := 0) hx hb dX1_house_81 (by decide) ?_
          exact hR _ _ _ _ _ _ _ dX1_house_82 rfl hS (by omega) (by omega) (⟨_, by unfold aHouse; rw [ceB_t hce, hg, h74]; rfl, hM.xp⟩)
        · skip
          have h74 : (hoV st (cN (ce x y)) == -1) = true := by simpa using c_74
          refine lv_iconst (v := 1) hx hb dX1_house_77 (by decide) ?_
          refine lv_goto (tgt := 82) hx hb dX1_house_78 (by decide) ?_
          exact hR _ _ _ _ _ _ _ dX1_house_82 rfl hS (by omega) (by omega) (⟨_, by unfold aHouse; rw [ceB_t hce, hg, h74]; rfl, hM.xp⟩)

set_option maxHeartbeats 4000000 in
theorem m_X1_block (z : Zt) (l : Launch) {H : Heap} (hlT : l.stackTraces = false) {F : Nat → Prop} {ad : Nat → Nat → Nat} {st : St} {gh : Gh} (hQ : QW z F ad st gh H) {a : Nat} (hx9 : c1 z a (.inr (0, [.ref (ad 0 0)])) H) (hFa : ¬ F a) {x y b : Int32} : Xi z l yX1_block cX1_block 6 .int [.ref a, .int x, .int y, .int b] H 8 4 24 (fun r H1 => ∃ st1, aBlock st x y b = (0, r, st1) ∧ XP z F ad st1 H H1) (fun E => (E = eI_ ∧ (aBlock st x y b).1 = 1) ∨ (E = eA_ ∧ (aBlock st x y b).1 = 2) ∨ (E = eS_ ∧ (aBlock st x y b).1 = 3)) := by
  refine en_Xi (own := RX1) (by decide) rfl (Nat.le_of_ble_eq_true rfl) ?_
  intro ag pp ev sS mM below meth cd ls Q C hS hl hR hX
  have hx := C.1.1
  have hb := C.1.2.1
  have hl : lv_has ls 6 [(0, .ref a), (1, .int x), (2, .int y), (3, .int b)] := hl
  refine lv_iload_n hx hb dX1_block_0 rfl (lv_at hl 1 rfl) ?_
  refine lv_iload_n hx hb dX1_block_1 rfl (lv_at hl 2 rfl) ?_
  refine cv_X1_43 C hS (m_X1_cellAt z l hlT) (Nat.le_of_ble_eq_true rfl) hl.1 (Nat.le_of_ble_eq_true rfl) (by omega) (by omega) dX1_block_2 (fun E ce9 q9 H1 locs hpx hE hS h1 h2 h3 => hX _ _ _ _ _ _ _ _ _ _ h1 h2 h3 hS (by omega) (by omega) hE (Or.inl ⟨hpx.1, by unfold aBlock; rw [ceB_f hpx.2]; rfl⟩)) (fun r_2 H1 locs h_2 hz_2 hS => ?_)
  obtain ⟨e2, h2, hce⟩ := h_2
  rw [e2] at hS ⊢
  subst h2
  have hB := ce_Bd hce
  refine lv_istore (lv' := [(4, _), (0, _), (1, _), (2, _), (3, _)]) hx hb dX1_block_5 hl (by decide) rfl (fun ls hl => ?_)
  refine lv_iconst (v := 0) hx hb dX1_block_7 (by decide) ?_
  refine lv_iconst (v := 3) hx hb dX1_block_8 (by decide) ?_
  refine lv_iload_n hx hb dX1_block_9 rfl (lv_at hl 4 rfl) ?_
  refine cv_X1_58 C hS (m_X1_requireFrom z l hlT) (Nat.le_of_ble_eq_true rfl) hl.1 (Nat.le_of_ble_eq_true rfl) (by omega) (by omega) dX1_block_10 (fun E ce9 q9 H1 locs hpx hE hS h1 h2 h3 => hX _ _ _ _ _ _ _ _ _ _ h1 h2 h3 hS (by omega) (by omega) hE (Or.inr (Or.inl ⟨hpx.1, by unfold aBlock; rw [ceB_t hce, inB_f hpx.2]; rfl⟩))) (fun H1 locs h_10 hz_10 hS => ?_)
  obtain ⟨e10, h10⟩ := h_10
  rw [e10] at hS ⊢
  refine lv_aload_n hx hb dX1_block_13 rfl (lv_at hl 1 rfl) ?_
  refine gf_X1_39 C hx9 rfl dX1_block_14 ?_
  refine lv_iload hx hb dX1_block_17 (lv_at hl 0 rfl) ?_
  refine cv_X1_62 C hQ.q hS (m_X2_isLane z l hQ (Or.inr hB)) (Nat.le_of_ble_eq_true rfl) hl.1 (Nat.le_of_ble_eq_true rfl) (by omega) (by omega) dX1_block_19 (fun r_19 h_19 => ?_)
  subst h_19
  refine lv_if_eq (tgt := 41) hx hb dX1_block_22 (by decide) (fun c_22 => ?_) (fun c_22 => ?_)
  · skip
    have hg : blG st x y = false := by unfold blG; rw [bI_f c_22]; rfl
    refine lv_iconst (v := 0) hx hb dX1_block_41 (by decide) ?_
    refine cv_X1_55 C hS (m_X1_requireState z l hlT) (Nat.le_of_ble_eq_true rfl) hl.1 (Nat.le_of_ble_eq_true rfl) (by omega) (by omega) dX1_block_42 (fun E ce9 q9 H1 locs hpx hE hS h1 h2 h3 => hX _ _ _ _ _ _ _ _ _ _ h1 h2 h3 hS (by omega) (by omega) hE (Or.inr (Or.inr ⟨hpx.1, by unfold aBlock; rw [ceB_t hce, inB_t h10, hg]; rfl⟩))) (fun H1 locs h_42 hz_42 hS => ?_)
    exact absurd rfl h_42.2
  · skip
    refine lv_aload_n hx hb dX1_block_25 rfl (lv_at hl 1 rfl) ?_
    refine gf_X1_39 C hx9 rfl dX1_block_26 ?_
    refine lv_iload hx hb dX1_block_29 (lv_at hl 0 rfl) ?_
    refine cv_X1_51 C hQ.q hS (m_X2_isTaken z l hQ) (Nat.le_of_ble_eq_true rfl) hl.1 (Nat.le_of_ble_eq_true rfl) (by omega) (by omega) dX1_block_31 (fun r_31 h_31 => ?_)
    subst h_31
    refine lv_if_ne (tgt := 41) hx hb dX1_block_34 (by decide) (fun c_34 => ?_) (fun c_34 => ?_)
    · skip
      have hg : blG st x y = false := by unfold blG; rw [bI_t c_34, Bool.not_true, Bool.and_false]
      refine lv_iconst (v := 0) hx hb dX1_block_41 (by decide) ?_
      refine cv_X1_55 C hS (m_X1_requireState z l hlT) (Nat.le_of_ble_eq_true rfl) hl.1 (Nat.le_of_ble_eq_true rfl) (by omega) (by omega) dX1_block_42 (fun E ce9 q9 H1 locs hpx hE hS h1 h2 h3 => hX _ _ _ _ _ _ _ _ _ _ h1 h2 h3 hS (by omega) (by omega) hE (Or.inr (Or.inr ⟨hpx.1, by unfold aBlock; rw [ceB_t hce, inB_t h10, hg]; rfl⟩))) (fun H1 locs h_42 hz_42 hS => ?_)
      exact absurd rfl h_42.2
    · skip
      have hg : blG st x y = true := by unfold blG; rw [bI_f c_34, bI_t c_22]; rfl
      refine lv_iconst (v := 1) hx hb dX1_block_37 (by decide) ?_
      refine lv_goto (tgt := 42) hx hb dX1_block_38 (by decide) ?_
      refine cv_X1_55 C hS (m_X1_requireState z l hlT) (Nat.le_of_ble_eq_true rfl) hl.1 (Nat.le_of_ble_eq_true rfl) (by omega) (by omega) dX1_block_42 (fun E ce9 q9 H1 locs hpx hE hS h1 h2 h3 => hX _ _ _ _ _ _ _ _ _ _ h1 h2 h3 hS (by omega) (by omega) hE (absurd hpx.2 (by decide))) (fun H1 locs h_42 hz_42 hS => ?_)
      obtain ⟨e42, h42⟩ := h_42
      rw [e42] at hS ⊢
      refine lv_aload_n hx hb dX1_block_45 rfl (lv_at hl 1 rfl) ?_
      refine gf_X1_39 C hx9 rfl dX1_block_46 ?_
      refine gf_X1_47 C hQ.q rfl dX1_block_49 ?_
      refine lv_iload hx hb dX1_block_52 (lv_at hl 0 rfl) ?_
      refine g_iald C hQ.cs (hB.in (by omega) (by omega)) dX1_block_54 ?_
      refine lv_istore (lv' := [(5, _), (4, _), (0, _), (1, _), (2, _), (3, _)]) hx hb dX1_block_55 hl (by decide) rfl (fun ls hl => ?_)
      refine lv_aload_n hx hb dX1_block_57 rfl (lv_at hl 2 rfl) ?_
      refine gf_X1_39 C hx9 rfl dX1_block_58 ?_
      refine gf_X1_47 C hQ.q rfl dX1_block_61 ?_
      refine lv_iload hx hb dX1_block_64 (lv_at hl 1 rfl) ?_
      refine lv_iload_n hx hb dX1_block_66 rfl (lv_at hl 5 rfl) ?_
      refine g_iast C hQ.cs (hB.in (by omega) (by omega)) hS (hQ.aa (k := 1) (i := 0) rfl) dX1_block_67 (fun H1 locs hu hS => ?_)
      have hM := hQ.set0 (k := cN (ce x y)) (cv_bl h10) hu
      refine lv_iload hx hb dX1_block_68 (lv_at hl 0 rfl) ?_
      exact hR _ _ _ _ _ _ _ dX1_block_70 rfl hS (by omega) (by omega) (⟨_, by unfold aBlock; rw [ceB_t hce, inB_t h10, hg]; rfl, hM.xp⟩)

set_option maxHeartbeats 4000000 in
theorem m_X1_cell (z : Zt) (l : Launch) {H : Heap} (hlT : l.stackTraces = false) {F : Nat → Prop} {ad : Nat → Nat → Nat} {st : St} {gh : Gh} (hQ : QW z F ad st gh H) {a : Nat} (hx9 : c1 z a (.inr (0, [.ref (ad 0 0)])) H) (hFa : ¬ F a) {x y : Int32} : Xi z l yX1_cell cX1_cell 3 .int [.ref a, .int x, .int y] H 8 2 12 (fun r H1 => ∃ st1, aCell st x y = (0, r, st1) ∧ XP z F ad st1 H H1) (fun E => (E = eI_ ∧ (aCell st x y).1 = 1)) := by
  refine en_Xi (own := RX1) (by decide) rfl (Nat.le_of_ble_eq_true rfl) ?_
  intro ag pp ev sS mM below meth cd ls Q C hS hl hR hX
  have hx := C.1.1
  have hb := C.1.2.1
  have hl : lv_has ls 3 [(0, .ref a), (1, .int x), (2, .int y)] := hl
  refine lv_aload_n hx hb dX1_cell_0 rfl (lv_at hl 0 rfl) ?_
  refine gf_X1_39 C hx9 rfl dX1_cell_1 ?_
  refine gf_X1_47 C hQ.q rfl dX1_cell_4 ?_
  refine lv_iload_n hx hb dX1_cell_7 rfl (lv_at hl 1 rfl) ?_
  refine lv_iload_n hx hb dX1_cell_8 rfl (lv_at hl 2 rfl) ?_
  refine cv_X1_43 C hS (m_X1_cellAt z l hlT) (Nat.le_of_ble_eq_true rfl) hl.1 (Nat.le_of_ble_eq_true rfl) (by omega) (by omega) dX1_cell_9 (fun E ce9 q9 H1 locs hpx hE hS h1 h2 h3 => hX _ _ _ _ _ _ _ _ _ _ h1 h2 h3 hS (by omega) (by omega) hE ( ⟨hpx.1, by unfold aCell; rw [ceB_f hpx.2]; rfl⟩)) (fun r_9 H1 locs h_9 hz_9 hS => ?_)
  obtain ⟨e9, h2, hce⟩ := h_9
  rw [e9] at hS ⊢
  subst h2
  have hB := ce_Bd hce
  refine g_iald C hQ.cs (hB.in (by omega) (by omega)) dX1_cell_12 ?_
  exact hR _ _ _ _ _ _ _ dX1_cell_13 rfl hS (by omega) (by omega) (⟨_, by unfold aCell; rw [ceB_t hce]; rfl, hQ.xp Ext.rf⟩)

set_option maxHeartbeats 4000000 in
theorem m_X1_torch (z : Zt) (l : Launch) {H : Heap} (hlT : l.stackTraces = false) {F : Nat → Prop} {ad : Nat → Nat → Nat} {st : St} {gh : Gh} (hQ : QW z F ad st gh H) {a : Nat} (hx9 : c1 z a (.inr (0, [.ref (ad 0 0)])) H) (hFa : ¬ F a) {i : Int32} : Xi z l yX1_torch cX1_torch 3 .boolean [.ref a, .int i] H 8 2 12 (fun r H1 => ∃ st1, aTorch st i = (0, r, st1) ∧ XP z F ad st1 H H1) (fun E => (E = eI_ ∧ (aTorch st i).1 = 1) ∨ (E = eS_ ∧ (aTorch st i).1 = 2)) := by
  refine en_Xi (own := RX1) (by decide) rfl (Nat.le_of_ble_eq_true rfl) ?_
  intro ag pp ev sS mM below meth cd ls Q C hS hl hR hX
  have hx := C.1.1
  have hb := C.1.2.1
  have hl : lv_has ls 3 [(0, .ref a), (1, .int i)] := hl
  refine lv_aload_n hx hb dX1_torch_0 rfl (lv_at hl 0 rfl) ?_
  refine gf_X1_39 C hx9 rfl dX1_torch_1 ?_
  refine gf_X1_65 C hQ.q rfl dX1_torch_4 ?_
  refine lv_iload_n hx hb dX1_torch_7 rfl (lv_at hl 1 rfl) ?_
  refine cv_X1_83 C hS (m_knC z l hlT hQ) (Nat.le_of_ble_eq_true rfl) hl.1 (Nat.le_of_ble_eq_true rfl) (by omega) (by omega) dX1_torch_8 (fun E ce9 q9 H1 locs hpx hE hS h1 h2 h3 => hX _ _ _ _ _ _ _ _ _ _ h1 h2 h3 hS (by omega) (by omega) hE (Or.inl ⟨hpx.1, by unfold aTorch; rw [inI_f hpx.2]; rfl⟩)) (fun r_8 H1 locs h_8 hz_8 hS => ?_)
  obtain ⟨e8, k, hk, hi, h8⟩ := h_8
  rw [e8] at hS ⊢
  subst hi
  subst h8
  have hN := hQ.nCi
  have hin := inI_t (cOk_nI (by omega) hk)
  have hcl : cN (nI k) = k := nI_clamp (by omega)
  refine va_castE hx hb C.1.2.2.2.1 (C.1.2.2.2.2 _ q210) ((hQ.c hk).recv C.2.1 rfl) dX1_torch_11 ?_
  refine lv_astore_n (lv' := [(2, _), (0, _), (1, _)]) hx hb dX1_torch_14 rfl hl (by decide) rfl (fun ls hl => ?_)
  refine lv_aload_n hx hb dX1_torch_15 rfl (lv_at hl 0 rfl) ?_
  refine cv_X1_87 C (hQ.c hk) hS (m_X5_isThere z l (hQ.c hk)) (Nat.le_of_ble_eq_true rfl) hl.1 (Nat.le_of_ble_eq_true rfl) (by omega) (by omega) dX1_torch_16 (fun r_16 h_16 => ?_)
  subst h_16
  refine cv_X1_55 C hS (m_X1_requireState z l hlT) (Nat.le_of_ble_eq_true rfl) hl.1 (Nat.le_of_ble_eq_true rfl) (by omega) (by omega) dX1_torch_19 (fun E ce9 q9 H1 locs hpx hE hS h1 h2 h3 => hX _ _ _ _ _ _ _ _ _ _ h1 h2 h3 hS (by omega) (by omega) hE (Or.inr ⟨hpx.1, by unfold aTorch; rw [hin, hcl, bI_f hpx.2]; rfl⟩)) (fun H1 locs h_19 hz_19 hS => ?_)
  obtain ⟨e19, h19⟩ := h_19
  rw [e19] at hS ⊢
  have hg := bI_t h19
  have hb2 := bd2 (hQ.inv.2.2.1 k hk).2.2.1
  refine lv_aload_n hx hb dX1_torch_22 rfl (lv_at hl 0 rfl) ?_
  refine lv_aload_n hx hb dX1_torch_23 rfl (lv_at hl 0 rfl) ?_
  refine gf_X1_100 C (hQ.c hk) rfl dX1_torch_24 ?_
  refine lv_if_ne (tgt := 34) hx hb dX1_torch_27 (by decide) (fun c_27 => ?_) (fun c_27 => ?_)
  · skip
    have hv : 1 - st 3 k = 0 := by rcases hb2 with h | h; exact absurd h c_27; rw [h]; rfl
    refine lv_iconst (v := 0) hx hb dX1_torch_34 (by decide) ?_
    refine pf_X1_100 C (hQ.c hk) (Nat.le_of_ble_eq_true rfl) rfl rfl hS (hQ.aa (k := 4) (i := k) hk) dX1_torch_35 (fun H1 locs hu hS => ?_)
    have hM := hQ.set3 hk (by first | exact (⟨0, by omega, rfl⟩ : Bd 0 2) | exact (⟨1, by omega, rfl⟩ : Bd 1 2)) hu
    obtain ⟨gh1, hQ1⟩ := hM.1
    refine lv_aload_n hx hb dX1_torch_38 rfl (lv_at hl 0 rfl) ?_
    refine gf_X1_100 C (hQ1.c (i := k) hk) rfl dX1_torch_39 ?_
    rw [sSet_same]
    exact hR _ _ _ _ _ _ _ dX1_torch_42 rfl hS (by omega) (by omega) (⟨_, by unfold aTorch; rw [hin, hcl, hg, hv]; rfl, hM.xp⟩)
  · skip
    have hv : 1 - st 3 k = 1 := by rw [show st 3 k = 0 by simpa using c_27]; rfl
    refine lv_iconst (v := 1) hx hb dX1_torch_30 (by decide) ?_
    refine lv_goto (tgt := 35) hx hb dX1_torch_31 (by decide) ?_
    refine pf_X1_100 C (hQ.c hk) (Nat.le_of_ble_eq_true rfl) rfl rfl hS (hQ.aa (k := 4) (i := k) hk) dX1_torch_35 (fun H1 locs hu hS => ?_)
    have hM := hQ.set3 hk (by first | exact (⟨0, by omega, rfl⟩ : Bd 0 2) | exact (⟨1, by omega, rfl⟩ : Bd 1 2)) hu
    obtain ⟨gh1, hQ1⟩ := hM.1
    refine lv_aload_n hx hb dX1_torch_38 rfl (lv_at hl 0 rfl) ?_
    refine gf_X1_100 C (hQ1.c (i := k) hk) rfl dX1_torch_39 ?_
    rw [sSet_same]
    exact hR _ _ _ _ _ _ _ dX1_torch_42 rfl hS (by omega) (by omega) (⟨_, by unfold aTorch; rw [hin, hcl, hg, hv]; rfl, hM.xp⟩)

