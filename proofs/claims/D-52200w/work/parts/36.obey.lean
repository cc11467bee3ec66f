set_option maxRecDepth 100000
def popS (st : St) (c : Nat) : St := fun g => if g = 4 then upd (st 4) c (st 4 c - 1) else if g = 5 then va_cpy (st 5) (st 5) (24 * c + 1) (24 * c) (mC st c - 1) else st g
theorem popS_4 (st : St) (c : Nat) : popS st c 4 = upd (st 4) c (st 4 c - 1) := rfl
theorem popS_5 (st : St) (c : Nat) : popS st c 5 = va_cpy (st 5) (st 5) (24 * c + 1) (24 * c) (mC st c - 1) := rfl
theorem mC_pop {st : St} {c n : Nat} (h : st 4 c = nI (n + 1)) (hn : n < 100) : mC (popS st c) c = n := by
  unfold mC
  rw [popS_4, pk_us, h, nI_pred, nI_clamp (by omega)]
theorem mC_pop_ne {st : St} {c j : Nat} (h : j ≠ c) : mC (popS st c) j = mC st j := by
  unfold mC
  rw [popS_4, pk_un h]
theorem pop5_in {st : St} {c k : Nat} (h : k < mC st c - 1) : popS st c 5 (24 * c + k) = st 5 (24 * c + (k + 1)) := by
  rw [popS_5, pk_cpy_in (by omega) (by omega)]
  congr 1
  omega
theorem pop5_ne {st : St} {c j k : Nat} (h : j ≠ c) (hk : k < 24) (hm : mC st c ≤ 24) : popS st c 5 (24 * j + k) = st 5 (24 * j + k) := by
  rw [popS_5, pk_cpy_out (by rcases Nat.lt_or_gt_of_ne h with g | g <;> omega)]
theorem Inv.pop {st : St} (h : Inv st) {c n : Nat} (hc : c < nC st) (hn : mC st c = n + 1) : Inv (popS st c) := by
  obtain ⟨h1, h2, h3, h4, h5, h6⟩ := h
  have h9 := (h3 c hc).2.2.2
  have h8 := h9.1.cl (by omega)
  have e4 : st 4 c = nI (n + 1) := by rw [← hn]; exact h8.1
  have hn24 : n + 1 ≤ 24 := by have := h8.2; unfold cN at this; unfold mC at hn; omega
  refine ⟨h1, h2, fun j hj => ?_, h4, fun j hj => ?_, h6⟩
  · have g := h3 j hj
    refine ⟨g.1, g.2.1, g.2.2.1, ?_, fun k hk => ?_⟩
    · by_cases e : j = c
      · subst e
        rw [popS_4, pk_us, e4, nI_pred]
        exact ⟨n, by omega, rfl⟩
      · rw [popS_4, pk_un e]
        exact g.2.2.2.1
    · by_cases e : j = c
      · subst e
        rw [mC_pop e4 (by omega)] at hk
        rw [pop5_in (by omega)]
        exact g.2.2.2.2 (k + 1) (by omega)
      · rw [mC_pop_ne e] at hk
        have g4 := (g.2.2.2.1.cl (by omega)).2
        have g5 : mC st j < 25 := g4
        rw [pop5_ne e (by omega) (by omega)]
        exact g.2.2.2.2 k hk
  · have hj' : nC st ≤ j := hj
    refine ⟨?_, (h5 j hj).2⟩
    rw [popS_4, pk_un (by omega)]
    exact (h5 j hj).1
theorem Vq_cg2 {st st' : St} {gh gh' : Gh} (e10 : st' 10 = st 10) (eg : gh'.2 = gh.2) (k i : Nat) (h : Vq st' gh' k i) : Vq st gh k i := by
  have e1 : nC st' = nC st := by unfold nC; rw [e10]
  have e2 : nP st' = nP st := by unfold nP; rw [e10]
  revert h
  refine Vq.cs (P := fun k i => Vq st gh k i) rfl rfl (fun i hi => ?_) (fun i hi h => ?_) (fun i hi => ?_) (fun i hi => ?_) (fun i hi => ?_) k i
  · rw [e1] at hi; exact hi
  · rw [e1] at hi; rw [eg] at h; exact ⟨hi, h⟩
  · rw [e1] at hi; exact hi
  · rw [e2] at hi; exact hi
  · rw [e2] at hi; exact hi
def ghInc (gh : Gh) (i : Nat) : Gh := (fun j => if j = i then gh.1 j + 1 else gh.1 j, gh.2)
section POPQ
variable {z : Zt} {F : Nat → Prop} {ad : Nat → Nat → Nat} {st : St} {gh : Gh} {H H1 : Heap} {c n : Nat}
theorem lsz_pop {i : Nat} (e : i ≠ c + 2) : lsz (popS st c) i = lsz st i := by
  match i, e with
  | 0, _ => rfl
  | 1, _ => rfl
  | i + 2, e => exact mC_pop_ne (by omega)
theorem qel_pop (h : QW z F ad st gh H) (hm : mC st c ≤ 24) {i : Nat} (e : i ≠ c + 2) (hi : i < nC st + 2) : qel z ad (popS st c) i = qel z ad st i := by
  match i, e, hi with
  | 0, _, _ => rfl
  | 1, _, _ => rfl
  | i + 2, e, hi' =>
    funext k
    show (if k < mC (popS st c) i then some (zi z (cN (popS st c 5 (24 * i + k)) + 128)) else none) = (if k < mC st i then some (zi z (cN (st 5 (24 * i + k)) + 128)) else none)
    rw [mC_pop_ne (by omega)]
    by_cases hk : k < mC st i
    · have := (h.mCi (i := i) (by omega)).1
      rw [if_pos hk, if_pos hk, pop5_ne (by omega) (by omega) hm]
    · rw [if_neg hk, if_neg hk]
theorem qel_pop_c (hmc : mC (popS st c) c = n) (hn : mC st c = n + 1) : qel z ad (popS st c) (c + 2) = fun i => qel z ad st (c + 2) (i + 1) := by
  funext k
  show (if k < mC (popS st c) c then some (zi z (cN (popS st c 5 (24 * c + k)) + 128)) else none) = (if k + 1 < mC st c then some (zi z (cN (st 5 (24 * c + (k + 1))) + 128)) else none)
  rw [hmc, hn]
  by_cases hk : k < n
  · rw [if_pos hk, if_pos (by omega), pop5_in (by omega)]
  · rw [if_neg hk, if_neg (by omega)]
theorem nC_pop : nC (popS st c) = nC st := rfl
theorem nP_pop : nP (popS st c) = nP st := rfl
theorem eA_inc {k i : Nat} : eA z ad (ghInc gh k) i = eA z ad gh i := rfl
theorem ct6 {i : Nat} : ctQ z ad st gh 6 i = aI z (cN (st 11 i)) (fun k => st 12 (12 * i + k)) := rfl
theorem ct0 : ctQ z ad st gh 0 0 = .inr (1, [.int (st 9 0), .ref (ad 1 0), .ref (ad 2 0), .ref (ad 2 1)]) := rfl
theorem ct1 : ctQ z ad st gh 1 0 = aI z 108 (st 0) := rfl
theorem ct_pop0 {k : Nat} : ctQ z ad (popS st c) (ghInc gh k) 0 0 = ctQ z ad st gh 0 0 := by rw [ct0, ct0]; rfl
theorem ct_pop1 {k : Nat} : ctQ z ad (popS st c) (ghInc gh k) 1 0 = ctQ z ad st gh 1 0 := by rw [ct1, ct1]; rfl
theorem ct_pop4 {k i : Nat} : ctQ z ad (popS st c) (ghInc gh k) 4 i = ctQ z ad st gh 4 i := by rw [ct4, ct4]; rfl
theorem ct_pop5 {k i : Nat} : ctQ z ad (popS st c) (ghInc gh k) 5 i = ctQ z ad st gh 5 i := by rw [ct5, ct5]; rfl
theorem ct_pop6 {k i : Nat} : ctQ z ad (popS st c) (ghInc gh k) 6 i = ctQ z ad st gh 6 i := by rw [ct6, ct6]; rfl
theorem ct_pop2 {i : Nat} (e : i ≠ c + 2) : ctQ z ad (popS st c) (ghInc gh (c + 2)) 2 i = ctQ z ad st gh 2 i := by
  rw [ct2, ct2, lsz_pop e, eA_inc, show (ghInc gh (c + 2)).1 i = gh.1 i from if_neg e]
theorem ct_pop3 (h : QW z F ad st gh H) (hm : mC st c ≤ 24) {i : Nat} (e : i ≠ c + 2) (hi : i < nC st + 2) : ctQ z ad (popS st c) (ghInc gh (c + 2)) 3 i = ctQ z ad st gh 3 i := by
  rw [ct3, ct3, qel_pop h hm e hi]
  rfl
theorem QW.pop (h : QW z F ad st gh H) (hc : c < nC st) (hn : mC st c = n + 1) (hr : RemR z (ad 2 (c + 2)) (eA z ad gh (c + 2)) (gh.1 (c + 2) + 1) n (gh.2 (c + 2)) (qel z ad st (c + 2)) H H1) : QM z F ad (popS st c) H H1 := by
  obtain ⟨r1, r2, r3, r4⟩ := hr
  have hm := h.mCi hc
  have e4 : st 4 c = nI (n + 1) := by rw [← hn]; exact hm.2
  have hcap := h.cap (i := c + 2) (by omega)
  have hcap1 : mC st c ≤ gh.2 (c + 2) := hcap.1
  have h0 : 0 < gh.2 (c + 2) := by omega
  have hea : eA z ad gh (c + 2) = ad 3 (c + 2) := by unfold eA; rw [if_neg (by omega)]
  have v2 : Vq st gh 2 (c + 2) := show c + 2 < nC st + 2 by omega
  have v3 : Vq st gh 3 (c + 2) := ⟨by omega, h0⟩
  have hmc := mC_pop e4 (by omega)
  have hV : ∀ k i, Vq (popS st c) (ghInc gh (c + 2)) k i → Vq st gh k i := fun k i hv => Vq_cg2 (st' := popS st c) (gh' := ghInc gh (c + 2)) rfl rfl k i hv
  rw [hea] at r1 r2 r4
  have hk : ∀ k i, Vq st gh k i → ¬ (k = 2 ∧ i = c + 2) → ¬ (k = 3 ∧ i = c + 2) → H1[ad k i]? = H[ad k i]? := fun k i hv h1 h2 => r4 _ (h.ap hv v2 h1) (h.ap hv v3 h2)
  have keep : ∀ k i, Vq st gh k i → ¬ (k = 2 ∧ i = c + 2) → ¬ (k = 3 ∧ i = c + 2) → ctQ z ad (popS st c) (ghInc gh (c + 2)) k i = ctQ z ad st gh k i → c1 z (ad k i) (ctQ z ad (popS st c) (ghInc gh (c + 2)) k i) H1 := fun k i hv h1 h2 e => by
    rw [e]
    exact (h.1 k i hv).kept (hk k i hv h1 h2)
  have hcells : ∀ k i, Vq (popS st c) (ghInc gh (c + 2)) k i → c1 z (ad k i) (ctQ z ad (popS st c) (ghInc gh (c + 2)) k i) H1 := by
    refine Vq.cs (P := fun k i => c1 z (ad k i) (ctQ z ad (popS st c) (ghInc gh (c + 2)) k i) H1) ?_ ?_ ?_ ?_ ?_ ?_ ?_
    · exact keep 0 0 rfl (by omega) (by omega) ct_pop0
    · exact keep 1 0 rfl (by omega) (by omega) ct_pop1
    · intro i hi
      rw [nC_pop] at hi
      by_cases e : i = c + 2
      · subst e
        rw [ct2, eA_inc, hea, show lsz (popS st c) (c + 2) = n from hmc, show (ghInc gh (c + 2)).1 (c + 2) = gh.1 (c + 2) + 1 from if_pos rfl]
        exact r1
      · exact keep 2 i hi (by omega) (by omega) (ct_pop2 e)
    · intro i hi h0i
      rw [nC_pop] at hi
      by_cases e : i = c + 2
      · subst e
        rw [ct3, qel_pop_c hmc hn]
        exact r2
      · exact keep 3 i ⟨hi, h0i⟩ (by omega) (by omega) (ct_pop3 h hm.1 e hi)
    · intro i hi
      rw [nC_pop] at hi
      exact keep 4 i hi (by omega) (by omega) ct_pop4
    · intro i hi
      rw [nP_pop] at hi
      exact keep 5 i hi (by omega) (by omega) ct_pop5
    · intro i hi
      rw [nP_pop] at hi
      exact keep 6 i hi (by omega) (by omega) ct_pop6
  have hcaps : ∀ i, i < nC (popS st c) + 2 → lsz (popS st c) i ≤ (ghInc gh (c + 2)).2 i ∧ (ghInc gh (c + 2)).2 i ≤ 34 := by
    intro i hi
    rw [nC_pop] at hi
    have hcp := h.cap hi
    by_cases e : i = c + 2
    · subst e
      rw [show lsz (popS st c) (c + 2) = n from hmc]
      exact ⟨show n ≤ gh.2 (c + 2) by omega, hcp.2⟩
    · rw [lsz_pop e]
      exact hcp
  exact ⟨⟨ghInc gh (c + 2), hcells, fun k i k' i' a1 a2 e => h.2.1 k i k' i' (hV k i a1) (hV k' i' a2) e, fun k i hv hk => h.2.2.1 k i (hV k i hv) hk, fun k i hv => h.2.2.2.1 k i (hV k i hv), h.inv.pop hc hn, hcaps⟩, r3, fun q hq => r4 q (fun e => hq (by rw [e]; exact h.2.2.1 2 _ v2 (by omega))) (fun e => hq (by rw [e]; exact h.2.2.1 3 _ v3 (by omega)))⟩
end POPQ
def caB (st : St) (c : Nat) (x : Int32) : Bool := if 4 ≤ x then (if 8 ≤ x then puB st c (x - 8) else raB st c (x - 4)) else goB st c x
def caT (st : St) (c : Nat) (x : Int32) : St := if 4 ≤ x then (if 8 ≤ x then puT st c (x - 8) else raT st c (x - 4)) else goT st c x
def obT (st : St) (c : Nat) : St := cond (caB (popS st c) c (st 5 (24 * c))) (caT (popS st c) c (st 5 (24 * c))) (sSet (caT (popS st c) c (st 5 (24 * c))) 6 c (caT (popS st c) c (st 5 (24 * c)) 6 c + 1))
def actT (st : St) (c : Nat) : St := cond (decide (0 < st 2 c) && !(mC st c == 0)) (obT st c) st
theorem sSet_id (st : St) (f k : Nat) : sSet st f k (st f k) = st := by
  funext g j
  unfold sSet
  split
  · rename_i e
    subst e
    unfold upd
    split
    · rename_i e
      rw [e]
    · rfl
  · rfl
/-! rows that no order touches -/
def RK (st' st : St) : Prop := st' 10 = st 10 ∧ st' 11 = st 11 ∧ st' 12 = st 12
theorem RK.rf (st : St) : RK st st := ⟨rfl, rfl, rfl⟩
theorem RK.tr {a b c : St} (h : RK a b) (g : RK b c) : RK a c := ⟨h.1.trans g.1, h.2.1.trans g.2.1, h.2.2.trans g.2.2⟩
theorem RK.set (st : St) {f : Nat} (k : Nat) (v : Int32) (hf : f < 10) : RK (sSet st f k v) st := ⟨sSet_row st f 10 k v (by omega), sSet_row st f 11 k v (by omega), sSet_row st f 12 k v (by omega)⟩
theorem RK.pop (st : St) (c : Nat) : RK (popS st c) st := ⟨rfl, rfl, rfl⟩
theorem RK.cond {a b st : St} {t : Bool} (h : RK a st) (g : RK b st) : RK (cond t a b) st := by cases t; exact g; exact h
theorem RK.ite {a b st : St} {t : Prop} [Decidable t] (h : RK a st) (g : RK b st) : RK (if t then a else b) st := by split; exact h; exact g
theorem RK.go (st : St) (c : Nat) (d : Int32) : RK (goT st c d) st := RK.cond (RK.cond (RK.cond ((RK.set _ _ _ (by omega)).tr ((RK.set _ _ _ (by omega)).tr (RK.set _ _ _ (by omega)))) (RK.rf st)) (RK.set _ _ _ (by omega))) (RK.rf st)
theorem RK.ra (st : St) (c : Nat) (d : Int32) : RK (raT st c d) st := RK.cond (RK.set _ _ _ (by omega)) (RK.rf st)
theorem RK.pu (st : St) (c : Nat) (d : Int32) : RK (puT st c d) st := RK.cond (RK.set _ _ _ (by omega)) (RK.rf st)
theorem RK.ca (st : St) (c : Nat) (x : Int32) : RK (caT st c x) st := RK.ite (RK.ite (RK.pu _ _ _) (RK.ra _ _ _)) (RK.go _ _ _)
theorem RK.ob (st : St) (c : Nat) : RK (obT st c) st := RK.cond ((RK.ca _ _ _).tr (RK.pop _ _)) ((RK.set _ _ _ (by omega)).tr ((RK.ca _ _ _).tr (RK.pop _ _)))
theorem RK.act (st : St) (c : Nat) : RK (actT st c) st := RK.cond (RK.ob _ _) (RK.rf _)
theorem RK.c {a b : St} (h : RK a b) : nC a = nC b := by unfold nC; rw [h.1]
theorem RK.p {a b : St} (h : RK a b) : nP a = nP b := by unfold nP; rw [h.1]

set_option maxHeartbeats 4000000 in
theorem m_X2_obey (z : Zt) (l : Launch) {H : Heap} {F : Nat → Prop} {ad : Nat → Nat → Nat} {st : St} {gh : Gh} (hQ : QW z F ad st gh H) {c : Nat} (hc : c < nC st) (hm : 0 < mC st c) : Kv z l yX2_obey cX2_obey 4 [.ref (ad 0 0), .ref (ad 4 c)] H 7 0 0 (fun H1 => QM z F ad (obT st c) H H1) := by
  refine en_Kv (own := RX2) (by decide) rfl (Nat.le_of_ble_eq_true rfl) ?_
  intro ag pp ev sS mM below meth cd ls Q C hin hS hl hR
  have hx := C.1.1
  have hb := C.1.2.1
  have hl : lv_has ls 4 [(0, .ref (ad 0 0)), (1, .ref (ad 4 c))] := hl
  have hmc := hQ.mCi hc
  obtain ⟨n, hn⟩ : ∃ n, mC st c = n + 1 := ⟨mC st c - 1, by omega⟩
  have hcap := hQ.cap (i := c + 2) (by omega)
  have hcap1 : mC st c ≤ gh.2 (c + 2) := hcap.1
  have hbo := (hQ.inv.2.2.1 c hc).2.2.2.2 0 hm
  have hob := hbo.cl (by omega)
  have hlo := hQ.lo hc
  rw [hn] at hlo
  have hEls : Els z H (qel z ad st (c + 2)) (n + 1) := fun i hi y hy => by
    rw [QW.el2 (by omega)] at hy
    cases hy
    exact Or.inr (Or.inr ⟨_, by have := ((hQ.inv.2.2.1 c hc).2.2.2.2 i (by omega)).cl (by omega); omega, rfl⟩)
  refine lv_aload_n hx hb dX2_obey_0 rfl (lv_at hl 1 rfl) ?_
  refine gf_X2_85 C (hQ.c hc) rfl dX2_obey_1 ?_
  refine lv_iconst (v := 0) hx hb dX2_obey_4 (by decide) ?_
  refine cv_X2_88 C hlo hS (m_J2_remove z l hlo (hQ.aa (k := 2) (i := c + 2) (show c + 2 < nC st + 2 by omega)) (hQ.ea (i := c + 2) (by omega) (by omega)) (by unfold eA; rw [if_neg (by omega)]; exact hQ.aa (k := 3) (i := c + 2) ⟨by omega, by omega⟩) (by unfold eA; rw [if_neg (by omega)]; exact hQ.ap (k := 2) (i := c + 2) (k' := 3) (i' := c + 2) (show c + 2 < nC st + 2 by omega) ⟨by omega, by omega⟩ (by omega)) (by omega) hcap.2 (fun i hi => if_neg (by omega)) hEls (QW.el2 (by omega))) (Nat.le_of_ble_eq_true rfl) hl.1 (Nat.le_of_ble_eq_true rfl) (by omega) (by omega) dX2_obey_5 (fun r_5 H1 locs h_5 hz_5 hS => ?_)
  obtain ⟨rfl, hrm⟩ := h_5
  have hM1 := hQ.pop hc hn hrm
  obtain ⟨gh1, hQ1⟩ := hM1.1
  have hc1 : c < nC (popS st c) := hc
  refine va_castE hx hb C.1.2.2.2.1 (C.1.2.2.2.2 _ q673) (C.recvI hS (by omega)) dX2_obey_8 ?_
  refine cv_X2_93 C (C.recvI hS (by omega)) hS (m_J17_intValue z l (by omega)) (Nat.le_of_ble_eq_true rfl) hl.1 (Nat.le_of_ble_eq_true rfl) (by omega) (by omega) dX2_obey_11 (fun r_11 h_11 => ?_)
  subst h_11
  refine lv_seti (y := st 5 (24 * c)) hob.1.symm ?_
  refine lv_istore_n (lv' := [(2, _), (0, _), (1, _)]) hx hb dX2_obey_14 rfl hl (by decide) rfl (fun ls hl => ?_)
  refine lv_iload_n hx hb dX2_obey_15 rfl (lv_at hl 0 rfl) ?_
  refine lv_iconst (v := 4) hx hb dX2_obey_16 (by decide) ?_
  refine lv_icmp_ge (tgt := 29) hx hb dX2_obey_17 (by decide) (fun c_17 => ?_) (fun c_17 => ?_)
  · skip
    refine lv_iload_n hx hb dX2_obey_29 rfl (lv_at hl 0 rfl) ?_
    refine lv_bipush (v := 8) hx hb dX2_obey_30 (by decide) ?_
    refine lv_icmp_ge (tgt := 46) hx hb dX2_obey_32 (by decide) (fun c_32 => ?_) (fun c_32 => ?_)
    · skip
      have hx4 : Bd (st 5 (24 * c) - 8) 4 := by
        obtain ⟨j, hj, e⟩ := hbo
        have e : st 5 (24 * c) = nI j := e
        rw [e] at c_32 ⊢
        have h8 : 8 ≤ j := (nI_leI (a := 8) (by omega) (by omega)).mp c_32
        exact ⟨j - 8, by omega, pk_sub h8⟩
      have eB : caB (popS st c) c (st 5 (24 * c)) = puB (popS st c) c (st 5 (24 * c) - 8) := by unfold caB; rw [if_pos c_17, if_pos c_32]
      have eT : caT (popS st c) c (st 5 (24 * c)) = puT (popS st c) c (st 5 (24 * c) - 8) := by unfold caT; rw [if_pos c_17, if_pos c_32]
      refine lv_aload_n hx hb dX2_obey_46 rfl (lv_at hl 1 rfl) ?_
      refine lv_aload_n hx hb dX2_obey_47 rfl (lv_at hl 2 rfl) ?_
      refine lv_iload_n hx hb dX2_obey_48 rfl (lv_at hl 0 rfl) ?_
      refine lv_bipush (v := 8) hx hb dX2_obey_49 (by decide) ?_
      refine lv_isub hx hb dX2_obey_51 ?_
      refine cv_X2_103 C hQ1.q hS (m_X2_pullsDown z l hQ1 hc1 hx4) (Nat.le_of_ble_eq_true rfl) hl.1 (Nat.le_of_ble_eq_true rfl) (by omega) (by omega) dX2_obey_52 (fun r_52 H1 locs h_52 hz_52 hS => ?_)
      obtain ⟨e9, hM2⟩ := h_52
      subst e9
      refine lv_seti (y := bI (caB (popS st c) c (st 5 (24 * c)))) (by rw [eB]) ?_
      rw [← eT] at hM2
      have hM3 : QM z F ad (caT (popS st c) c (st 5 (24 * c))) _ _ := hM2
      obtain ⟨gh3, hQ3⟩ := hM3.1
      have hc3 : c < nC (caT (popS st c) c (st 5 (24 * c))) := by rw [(RK.ca _ _ _).c]; exact hc
      refine lv_istore_n (lv' := [(3, _), (2, _), (0, _), (1, _)]) hx hb dX2_obey_55 rfl hl (by decide) rfl (fun ls hl => ?_)
      refine lv_aload_n hx hb dX2_obey_56 rfl (lv_at hl 3 rfl) ?_
      refine lv_dup hx hb dX2_obey_57 rfl ?_
      refine gf_X2_106 C (hQ3.c hc3) rfl dX2_obey_58 ?_
      refine lv_iload_n hx hb dX2_obey_61 rfl (lv_at hl 0 rfl) ?_
      refine lv_if_eq (tgt := 69) hx hb dX2_obey_62 (by decide) (fun c_62 => ?_) (fun c_62 => ?_)
      · skip
        have hcb := bI_f c_62
        refine lv_iconst (v := 1) hx hb dX2_obey_69 (by decide) ?_
        refine lv_iadd hx hb dX2_obey_70 ?_
        refine pf_X2_106 C (hQ3.c hc3) (Nat.le_of_ble_eq_true rfl) rfl rfl hS (hQ3.aa (k := 4) (i := c) hc3) dX2_obey_71 (fun H1 locs hu hS => ?_)
        have hM4 := hQ3.set6 hc3 hu
        exact hR _ _ _ _ _ _ dX2_obey_74 hS (by omega) (by omega) (by
    have hM5 := hM1.tr (hM3.tr hM4)
    unfold obT
    rw [hcb]
    first
    | exact hM5
    | (rw [show (caT (popS st c) c (st 5 (24 * c)) 6 c + 0 : Int32) = caT (popS st c) c (st 5 (24 * c)) 6 c from by grind, sSet_id] at hM5
       exact hM5))
      · skip
        have hcb := bI_t c_62
        refine lv_iconst (v := 0) hx hb dX2_obey_65 (by decide) ?_
        refine lv_goto (tgt := 70) hx hb dX2_obey_66 (by decide) ?_
        refine lv_iadd hx hb dX2_obey_70 ?_
        refine pf_X2_106 C (hQ3.c hc3) (Nat.le_of_ble_eq_true rfl) rfl rfl hS (hQ3.aa (k := 4) (i := c) hc3) dX2_obey_71 (fun H1 locs hu hS => ?_)
        have hM4 := hQ3.set6 hc3 hu
        exact hR _ _ _ _ _ _ dX2_obey_74 hS (by omega) (by omega) (by
    have hM5 := hM1.tr (hM3.tr hM4)
    unfold obT
    rw [hcb]
    first
    | exact hM5
    | (rw [show (caT (popS st c) c (st 5 (24 * c)) 6 c + 0 : Int32) = caT (popS st c) c (st 5 (24 * c)) 6 c from by grind, sSet_id] at hM5
       exact hM5))
    · skip
      have hx4 : Bd (st 5 (24 * c) - 4) 4 := by
        obtain ⟨j, hj, e⟩ := hbo
        have e : st 5 (24 * c) = nI j := e
        rw [e] at c_32 c_17 ⊢
        have h4 : 4 ≤ j := (nI_leI (a := 4) (by omega) (by omega)).mp c_17
        have h8 : ¬ 8 ≤ j := fun h => c_32 ((nI_leI (a := 8) (by omega) (by omega)).mpr h)
        exact ⟨j - 4, by omega, pk_sub h4⟩
      have eB : caB (popS st c) c (st 5 (24 * c)) = raB (popS st c) c (st 5 (24 * c) - 4) := by unfold caB; rw [if_pos c_17, if_neg c_32]
      have eT : caT (popS st c) c (st 5 (24 * c)) = raT (popS st c) c (st 5 (24 * c) - 4) := by unfold caT; rw [if_pos c_17, if_neg c_32]
      refine lv_aload_n hx hb dX2_obey_35 rfl (lv_at hl 1 rfl) ?_
      refine lv_aload_n hx hb dX2_obey_36 rfl (lv_at hl 2 rfl) ?_
      refine lv_iload_n hx hb dX2_obey_37 rfl (lv_at hl 0 rfl) ?_
      refine lv_iconst (v := 4) hx hb dX2_obey_38 (by decide) ?_
      refine lv_isub hx hb dX2_obey_39 ?_
      refine cv_X2_100 C hQ1.q hS (m_X2_raises z l hQ1 hc1 hx4) (Nat.le_of_ble_eq_true rfl) hl.1 (Nat.le_of_ble_eq_true rfl) (by omega) (by omega) dX2_obey_40 (fun r_40 H1 locs h_40 hz_40 hS => ?_)
      obtain ⟨e9, hM2⟩ := h_40
      subst e9
      refine lv_seti (y := bI (caB (popS st c) c (st 5 (24 * c)))) (by rw [eB]) ?_
      rw [← eT] at hM2
      have hM3 : QM z F ad (caT (popS st c) c (st 5 (24 * c))) _ _ := hM2
      obtain ⟨gh3, hQ3⟩ := hM3.1
      have hc3 : c < nC (caT (popS st c) c (st 5 (24 * c))) := by rw [(RK.ca _ _ _).c]; exact hc
      refine lv_goto (tgt := 55) hx hb dX2_obey_43 (by decide) ?_
      refine lv_istore_n (lv' := [(3, _), (2, _), (0, _), (1, _)]) hx hb dX2_obey_55 rfl hl (by decide) rfl (fun ls hl => ?_)
      refine lv_aload_n hx hb dX2_obey_56 rfl (lv_at hl 3 rfl) ?_
      refine lv_dup hx hb dX2_obey_57 rfl ?_
      refine gf_X2_106 C (hQ3.c hc3) rfl dX2_obey_58 ?_
      refine lv_iload_n hx hb dX2_obey_61 rfl (lv_at hl 0 rfl) ?_
      refine lv_if_eq (tgt := 69) hx hb dX2_obey_62 (by decide) (fun c_62 => ?_) (fun c_62 => ?_)
      · skip
        have hcb := bI_f c_62
        refine lv_iconst (v := 1) hx hb dX2_obey_69 (by decide) ?_
        refine lv_iadd hx hb dX2_obey_70 ?_
        refine pf_X2_106 C (hQ3.c hc3) (Nat.le_of_ble_eq_true rfl) rfl rfl hS (hQ3.aa (k := 4) (i := c) hc3) dX2_obey_71 (fun H1 locs hu hS => ?_)
        have hM4 := hQ3.set6 hc3 hu
        exact hR _ _ _ _ _ _ dX2_obey_74 hS (by omega) (by omega) (by
    have hM5 := hM1.tr (hM3.tr hM4)
    unfold obT
    rw [hcb]
    first
    | exact hM5
    | (rw [show (caT (popS st c) c (st 5 (24 * c)) 6 c + 0 : Int32) = caT (popS st c) c (st 5 (24 * c)) 6 c from by grind, sSet_id] at hM5
       exact hM5))
      · skip
        have hcb := bI_t c_62
        refine lv_iconst (v := 0) hx hb dX2_obey_65 (by decide) ?_
        refine lv_goto (tgt := 70) hx hb dX2_obey_66 (by decide) ?_
        refine lv_iadd hx hb dX2_obey_70 ?_
        refine pf_X2_106 C (hQ3.c hc3) (Nat.le_of_ble_eq_true rfl) rfl rfl hS (hQ3.aa (k := 4) (i := c) hc3) dX2_obey_71 (fun H1 locs hu hS => ?_)
        have hM4 := hQ3.set6 hc3 hu
        exact hR _ _ _ _ _ _ dX2_obey_74 hS (by omega) (by omega) (by
    have hM5 := hM1.tr (hM3.tr hM4)
    unfold obT
    rw [hcb]
    first
    | exact hM5
    | (rw [show (caT (popS st c) c (st 5 (24 * c)) 6 c + 0 : Int32) = caT (popS st c) c (st 5 (24 * c)) 6 c from by grind, sSet_id] at hM5
       exact hM5))
  · skip
    have hx4 : Bd (st 5 (24 * c)) 4 := by
      obtain ⟨j, hj, e⟩ := hbo
      have e : st 5 (24 * c) = nI j := e
      refine ⟨j, Nat.not_le.mp (fun h => c_17 ?_), e⟩
      rw [e]
      exact nI_le h (by omega)
    have eB : caB (popS st c) c (st 5 (24 * c)) = goB (popS st c) c (st 5 (24 * c)) := if_neg c_17
    have eT : caT (popS st c) c (st 5 (24 * c)) = goT (popS st c) c (st 5 (24 * c)) := if_neg c_17
    refine lv_aload_n hx hb dX2_obey_20 rfl (lv_at hl 1 rfl) ?_
    refine lv_aload_n hx hb dX2_obey_21 rfl (lv_at hl 2 rfl) ?_
    refine lv_iload_n hx hb dX2_obey_22 rfl (lv_at hl 0 rfl) ?_
    refine cv_X2_96 C hQ1.q hS (m_X2_goes z l hQ1 hc1 hx4) (Nat.le_of_ble_eq_true rfl) hl.1 (Nat.le_of_ble_eq_true rfl) (by omega) (by omega) dX2_obey_23 (fun r_23 H1 locs h_23 hz_23 hS => ?_)
    obtain ⟨e9, hM2⟩ := h_23
    subst e9
    refine lv_seti (y := bI (caB (popS st c) c (st 5 (24 * c)))) (by rw [eB]) ?_
    rw [← eT] at hM2
    have hM3 : QM z F ad (caT (popS st c) c (st 5 (24 * c))) _ _ := hM2
    obtain ⟨gh3, hQ3⟩ := hM3.1
    have hc3 : c < nC (caT (popS st c) c (st 5 (24 * c))) := by rw [(RK.ca _ _ _).c]; exact hc
    refine lv_goto (tgt := 55) hx hb dX2_obey_26 (by decide) ?_
    refine lv_istore_n (lv' := [(3, _), (2, _), (0, _), (1, _)]) hx hb dX2_obey_55 rfl hl (by decide) rfl (fun ls hl => ?_)
    refine lv_aload_n hx hb dX2_obey_56 rfl (lv_at hl 3 rfl) ?_
    refine lv_dup hx hb dX2_obey_57 rfl ?_
    refine gf_X2_106 C (hQ3.c hc3) rfl dX2_obey_58 ?_
    refine lv_iload_n hx hb dX2_obey_61 rfl (lv_at hl 0 rfl) ?_
    refine lv_if_eq (tgt := 69) hx hb dX2_obey_62 (by decide) (fun c_62 => ?_) (fun c_62 => ?_)
    · skip
      have hcb := bI_f c_62
      refine lv_iconst (v := 1) hx hb dX2_obey_69 (by decide) ?_
      refine lv_iadd hx hb dX2_obey_70 ?_
      refine pf_X2_106 C (hQ3.c hc3) (Nat.le_of_ble_eq_true rfl) rfl rfl hS (hQ3.aa (k := 4) (i := c) hc3) dX2_obey_71 (fun H1 locs hu hS => ?_)
      have hM4 := hQ3.set6 hc3 hu
      exact hR _ _ _ _ _ _ dX2_obey_74 hS (by omega) (by omega) (by
    have hM5 := hM1.tr (hM3.tr hM4)
    unfold obT
    rw [hcb]
    first
    | exact hM5
    | (rw [show (caT (popS st c) c (st 5 (24 * c)) 6 c + 0 : Int32) = caT (popS st c) c (st 5 (24 * c)) 6 c from by grind, sSet_id] at hM5
       exact hM5))
    · skip
      have hcb := bI_t c_62
      refine lv_iconst (v := 0) hx hb dX2_obey_65 (by decide) ?_
      refine lv_goto (tgt := 70) hx hb dX2_obey_66 (by decide) ?_
      refine lv_iadd hx hb dX2_obey_70 ?_
      refine pf_X2_106 C (hQ3.c hc3) (Nat.le_of_ble_eq_true rfl) rfl rfl hS (hQ3.aa (k := 4) (i := c) hc3) dX2_obey_71 (fun H1 locs hu hS => ?_)
      have hM4 := hQ3.set6 hc3 hu
      exact hR _ _ _ _ _ _ dX2_obey_74 hS (by omega) (by omega) (by
    have hM5 := hM1.tr (hM3.tr hM4)
    unfold obT
    rw [hcb]
    first
    | exact hM5
    | (rw [show (caT (popS st c) c (st 5 (24 * c)) 6 c + 0 : Int32) = caT (popS st c) c (st 5 (24 * c)) 6 c from by grind, sSet_id] at hM5
       exact hM5))

