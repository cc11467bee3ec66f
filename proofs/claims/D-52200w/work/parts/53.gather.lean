set_option maxRecDepth 100000
def gaT (st : St) (x n : Int32) : St := sSet (sSet (sSet (sSet st 1 (nC st) x) 2 (nC st) n) 3 (nC st) 1) 10 0 (nI (nC st + 1))
def gaG (st : St) (x y : Int32) : Bool := decide (nC st < 6) && frB st (ce x y)
def aGather (st : St) (x y n : Int32) : Ans := cond (ceB x y) (cond (inB n 1 9) (cond (gaG st x y) (0, nI (nC st), gaT st (ce x y) n) (3, 0, st)) (2, 0, st)) (1, 0, st)
section GA
variable {st : St} {x n : Int32}
theorem ga_1 : gaT st x n 1 = upd (st 1) (nC st) x := rfl
theorem ga_2 : gaT st x n 2 = upd (st 2) (nC st) n := rfl
theorem ga_3 : gaT st x n 3 = upd (st 3) (nC st) 1 := rfl
theorem ga_10 : gaT st x n 10 = upd (st 10) 0 (nI (nC st + 1)) := rfl
theorem ga_nC (h : nC st < 100) : nC (gaT st x n) = nC st + 1 := by
  show (gaT st x n 10 0).toNatClampNeg = _
  rw [ga_10, pk_us]
  exact nI_clamp (by omega)
theorem ga_nP : nP (gaT st x n) = nP st := rfl
theorem Inv.ga (h : Inv st) (hn : nC st < 6) (hx : Bd x 108) (hp : Bd n 10) : Inv (gaT st x n) := by
  have e1 := ga_nC (st := st) (x := x) (n := n) (by omega)
  obtain ⟨h1, h2, h3, h4, h5, h6⟩ := h
  refine ⟨⟨by rw [e1, ga_10, pk_us], by omega, h1.2.2.1, h1.2.2.2⟩, h2, fun c hc => ?_, h4, fun c hc => ?_, h6⟩
  · rw [e1] at hc
    by_cases e : c = nC st
    · subst e
      have h7 := h5 (nC st) (Nat.le_refl _)
      have hm : mC (gaT st x n) (nC st) = 0 := by
        show (st 4 (nC st)).toNatClampNeg = 0
        rw [h7.1]; rfl
      rw [ga_1, ga_2, ga_3, pk_us, pk_us, pk_us]
      exact ⟨hx, hp, ⟨1, by omega, rfl⟩, ⟨0, by omega, h7.1⟩, fun k hk => by omega⟩
    · have g := h3 c (by omega)
      rw [ga_1, ga_2, ga_3, pk_un e, pk_un e, pk_un e]
      exact g
  · rw [e1] at hc
    exact h5 c (by omega)
end GA
theorem bd_in {v : Int32} {lo hi : Nat} (hh : hi < 2 ^ 29) (h : nI lo ≤ v ∧ v ≤ nI hi) (hl : lo ≤ hi) : Bd v (hi + 1) := by
  obtain ⟨k, -, h2, h3⟩ := inB_ex hh h hl
  exact ⟨k, by omega, h3⟩

set_option maxHeartbeats 4000000 in
theorem m_X1_gather (z : Zt) (l : Launch) {H : Heap} (hlT : l.stackTraces = false) {F : Nat → Prop} {ad : Nat → Nat → Nat} {st : St} {gh : Gh} (hQ : QW z F ad st gh H) {a : Nat} (hx9 : c1 z a (.inr (0, [.ref (ad 0 0)])) H) (hFa : ¬ F a) {x y n : Int32} : Xi z l yX1_gather cX1_gather 5 .int [.ref a, .int x, .int y, .int n] H 9 7 72 (fun r H1 => ∃ st1, aGather st x y n = (0, r, st1) ∧ XP z F ad st1 H H1) (fun E => (E = eI_ ∧ (aGather st x y n).1 = 1) ∨ (E = eA_ ∧ (aGather st x y n).1 = 2) ∨ (E = eS_ ∧ (aGather st x y n).1 = 3)) := by
  refine en_Xi (own := RX1) (by decide) rfl (Nat.le_of_ble_eq_true rfl) ?_
  intro ag pp ev sS mM below meth cd ls Q C hS hl hR hX
  have hx := C.1.1
  have hb := C.1.2.1
  have hl : lv_has ls 5 [(0, .ref a), (1, .int x), (2, .int y), (3, .int n)] := hl
  have hout : ¬ AA z (zs z 0) := C.tDE.out
  have hnC := hQ.nCi
  have hA0 : AA z H.size := (C.2.2.1.S hS).1
  have hlta := hx9.lt
  refine lv_iload_n hx hb dX1_gather_0 rfl (lv_at hl 1 rfl) ?_
  refine lv_iload_n hx hb dX1_gather_1 rfl (lv_at hl 2 rfl) ?_
  refine cv_X1_43 C hS (m_X1_cellAt z l hlT) (Nat.le_of_ble_eq_true rfl) hl.1 (Nat.le_of_ble_eq_true rfl) (by omega) (by omega) dX1_gather_2 (fun E ce9 q9 H1 locs hpx hE hS h1 h2 h3 => hX _ _ _ _ _ _ _ _ _ _ h1 h2 h3 hS (by omega) (by omega) hE (Or.inl ⟨hpx.1, by unfold aGather; rw [ceB_f hpx.2]; rfl⟩)) (fun r_2 H1 locs h_2 hz_2 hS => ?_)
  obtain ⟨e2, h2, hce⟩ := h_2
  rw [e2] at hS ⊢
  subst h2
  have hB := ce_Bd hce
  refine lv_istore (lv' := [(4, _), (0, _), (1, _), (2, _), (3, _)]) hx hb dX1_gather_5 hl (by decide) rfl (fun ls hl => ?_)
  refine lv_iconst (v := 1) hx hb dX1_gather_7 (by decide) ?_
  refine lv_bipush (v := 9) hx hb dX1_gather_8 (by decide) ?_
  refine lv_iload_n hx hb dX1_gather_10 rfl (lv_at hl 4 rfl) ?_
  refine cv_X1_58 C hS (m_X1_requireFrom z l hlT) (Nat.le_of_ble_eq_true rfl) hl.1 (Nat.le_of_ble_eq_true rfl) (by omega) (by omega) dX1_gather_11 (fun E ce9 q9 H1 locs hpx hE hS h1 h2 h3 => hX _ _ _ _ _ _ _ _ _ _ h1 h2 h3 hS (by omega) (by omega) hE (Or.inr (Or.inl ⟨hpx.1, by unfold aGather; rw [ceB_t hce, inB_f hpx.2]; rfl⟩))) (fun H1 locs h_11 hz_11 hS => ?_)
  obtain ⟨e11, h11⟩ := h_11
  rw [e11] at hS ⊢
  have hbn := bd_in (lo := 1) (hi := 9) (by omega) h11 (by omega)
  refine lv_aload_n hx hb dX1_gather_14 rfl (lv_at hl 1 rfl) ?_
  refine gf_X1_39 C hx9 rfl dX1_gather_15 ?_
  refine gf_X1_65 C hQ.q rfl dX1_gather_18 ?_
  refine cv_X1_69 C hQ.lc hS (m_J2_size z l hQ.lc) (Nat.le_of_ble_eq_true rfl) hl.1 (Nat.le_of_ble_eq_true rfl) (by omega) (by omega) dX1_gather_21 (fun r_21 h_21 => ?_)
  subst h_21
  refine lv_bipush (v := 6) hx hb dX1_gather_24 (by decide) ?_
  refine lv_icmp_ge (tgt := 45) hx hb dX1_gather_26 (by decide) (fun c_26 => ?_) (fun c_26 => ?_)
  · skip
    have hg : gaG st x y = false := by unfold gaG; rw [decide_eq_false (fun h9 => absurd c_26 (nI_ge (b := 6) h9 (by omega)))]; rfl
    refine lv_iconst (v := 0) hx hb dX1_gather_45 (by decide) ?_
    refine cv_X1_55 C hS (m_X1_requireState z l hlT) (Nat.le_of_ble_eq_true rfl) hl.1 (Nat.le_of_ble_eq_true rfl) (by omega) (by omega) dX1_gather_46 (fun E ce9 q9 H1 locs hpx hE hS h1 h2 h3 => hX _ _ _ _ _ _ _ _ _ _ h1 h2 h3 hS (by omega) (by omega) hE (Or.inr (Or.inr ⟨hpx.1, by unfold aGather; rw [ceB_t hce, inB_t h11, hg]; rfl⟩))) (fun H1 locs h_46 hz_46 hS => ?_)
    exact absurd rfl h_46.2
  · skip
    have hc6 : nC st < 6 := Nat.not_le.mp (fun h9 => c_26 (nI_le (a := 6) h9 (by omega)))
    refine lv_aload_n hx hb dX1_gather_29 rfl (lv_at hl 1 rfl) ?_
    refine gf_X1_39 C hx9 rfl dX1_gather_30 ?_
    refine lv_iload hx hb dX1_gather_33 (lv_at hl 0 rfl) ?_
    refine cv_X1_72 C hQ.q hS (m_X2_isFree z l hQ (Or.inr hB)) (Nat.le_of_ble_eq_true rfl) hl.1 (Nat.le_of_ble_eq_true rfl) (by omega) (by omega) dX1_gather_35 (fun r_35 h_35 => ?_)
    subst h_35
    refine lv_if_eq (tgt := 45) hx hb dX1_gather_38 (by decide) (fun c_38 => ?_) (fun c_38 => ?_)
    · skip
      have hg : gaG st x y = false := by unfold gaG; rw [bI_f c_38, Bool.and_false]
      refine lv_iconst (v := 0) hx hb dX1_gather_45 (by decide) ?_
      refine cv_X1_55 C hS (m_X1_requireState z l hlT) (Nat.le_of_ble_eq_true rfl) hl.1 (Nat.le_of_ble_eq_true rfl) (by omega) (by omega) dX1_gather_46 (fun E ce9 q9 H1 locs hpx hE hS h1 h2 h3 => hX _ _ _ _ _ _ _ _ _ _ h1 h2 h3 hS (by omega) (by omega) hE (Or.inr (Or.inr ⟨hpx.1, by unfold aGather; rw [ceB_t hce, inB_t h11, hg]; rfl⟩))) (fun H1 locs h_46 hz_46 hS => ?_)
      exact absurd rfl h_46.2
    · skip
      have hg : gaG st x y = true := by unfold gaG; rw [bI_t c_38, decide_eq_true hc6]; rfl
      refine lv_iconst (v := 1) hx hb dX1_gather_41 (by decide) ?_
      refine lv_goto (tgt := 46) hx hb dX1_gather_42 (by decide) ?_
      refine cv_X1_55 C hS (m_X1_requireState z l hlT) (Nat.le_of_ble_eq_true rfl) hl.1 (Nat.le_of_ble_eq_true rfl) (by omega) (by omega) dX1_gather_46 (fun E ce9 q9 H1 locs hpx hE hS h1 h2 h3 => hX _ _ _ _ _ _ _ _ _ _ h1 h2 h3 hS (by omega) (by omega) hE (absurd hpx.2 (by decide))) (fun H1 locs h_46 hz_46 hS => ?_)
      obtain ⟨e46, h46⟩ := h_46
      rw [e46] at hS ⊢
      refine lv_aload_n hx hb dX1_gather_49 rfl (lv_at hl 1 rfl) ?_
      refine gf_X1_39 C hx9 rfl dX1_gather_50 ?_
      refine gf_X1_65 C hQ.q rfl dX1_gather_53 ?_
      refine r_new (ci := 5) (fs := [.int 0, .int 0, .int 0, .int 0, .null]) (C := RX5) (T := TX5) (N := 5) C in_X5 tyX5 tyX5_ok (C.1.2.2.2.2 _ q210) (C.1.2.2.2.2 _ q439) (C.1.2.2.2.2 _ q54) rfl (fun j hj => by rcases (show j = 0 ∨ j = 1 ∨ j = 2 ∨ j = 3 ∨ j = 4 by omega) with rfl | rfl | rfl | rfl | rfl <;> rfl) hS (by omega) (by omega) dX1_gather_56 (fun H1 hn hS => ?_)
      have hn1 := hn
      have s1 := hn1.2.1
      refine lv_dup hx hb dX1_gather_59 rfl ?_
      refine lv_iload hx hb dX1_gather_60 (lv_at hl 0 rfl) ?_
      refine lv_iload_n hx hb dX1_gather_62 rfl (lv_at hl 4 rfl) ?_
      refine cv_X1_77 C hS (m_X5_init z l hn1.1 hA0) (Nat.le_of_ble_eq_true rfl) hl.1 (Nat.le_of_ble_eq_true rfl) (by omega) (by omega) dX1_gather_63 (fun H1 locs h_63 hz_63 hS => ?_)
      obtain ⟨y1, y2, y3, y4⟩ := h_63
      rw [s1] at y1 y2 y3
      have hk2 : ∀ q, q < H.size → H1[q]? = H[q]? := fun q hq => by rw [y4 q (by omega) (by omega), hn1.2.2 q hq]
      have hQ2 := hQ.kept (H1 := H1) (fun k i hv => hk2 _ (hQ.lt hv))
      have hx2 := hx9.kept (hk2 a hlta)
      have hS4 := hS
      generalize hH4 : H1 = H4 at y1 y2 y3 hk2 hQ2 hx2 hS4 hS ⊢
      refine cv_X1_79 C hQ2.lc hS (m_addL z l hQ2 (i := 0) (by omega) (show nC st ≤ 23 by omega) hout (Or.inl ⟨_, y1⟩)) (Nat.le_of_ble_eq_true rfl) hl.1 (Nat.le_of_ble_eq_true rfl) (by omega) (by omega) dX1_gather_66 (fun r_66 H1 locs h_66 hz_66 hS => ?_)
      have hadd := h_66.2
      have hfr := hadd.fr (fun h => by unfold eA; rw [if_pos h]) (C.2.2.1.S hS4) (C.2.2.1.S hS) hout
      obtain ⟨e6, cap6, j1, j2, j3, j4, j5, -⟩ := hadd
      have j1 : c1 z (ad 2 0) (.inr (2, [.int (gh.1 0 + 1), .ref e6, .int (nI (nC st + 1))])) H1 := j1
      have v20 : Vq st gh 2 0 := show 0 < nC st + 2 by omega
      have heE : 0 < gh.2 0 → eA z ad gh 0 = ad 3 0 := fun h => by unfold eA; rw [if_neg (by omega)]
      have l20 := hQ.lt v20
      have l30 : 0 < gh.2 0 → ad 3 0 < H.size := fun h => hQ.lt (k := 3) (i := 0) ⟨by omega, h⟩
      have hnw : ∀ q, H.size ≤ q → q < H.size + 2 → H1[q]? = H4[q]? := fun q h1 h2 => hfr q (by omega) (by omega) (fun h => by rw [heE h]; have := l30 h; omega)
      have hin5 := hQ.inv.2.2.2.2.1 (nC st) (Nat.le_refl _)
      have hm0 : mC (gaT st (ce x y) n) (nC st) = 0 := by
        show (st 4 (nC st)).toNatClampNeg = 0
        rw [hin5.1]; rfl
      have e5w : (0 < gh.2 0 ∧ e6 = ad 3 0) ∨ H.size + 2 ≤ e6 := by
        rcases j5 with ⟨g1, -, g3, -⟩ | ⟨g1, -⟩
        · exact Or.inl ⟨g3, by rw [g1]; exact heE g3⟩
        · exact Or.inr (by rw [g1]; omega)
      have e6n : e6 ≠ H.size ∧ e6 ≠ H.size + 1 := by
        rcases e5w with ⟨g1, g2⟩ | g1
        · have := l30 g1; exact ⟨Nat.ne_of_lt (by rw [g2]; omega), Nat.ne_of_lt (by rw [g2]; omega)⟩
        · exact ⟨Nat.ne_of_gt (by omega), Nat.ne_of_gt (by omega)⟩
      have hQ5 := QW.addC (N := H.size) (b := H.size) (lo := H.size + 1) (e := zs z 0) (e0 := e6) (cap := 0) (cap0 := cap6) (md := 0) (md0 := gh.1 0 + 1) (st' := gaT st (ce x y) n) (H1 := H1) hQ (fun k i hv => hQ.lt hv) hA0 rfl rfl rfl rfl rfl rfl (ga_nC (by omega)) rfl
        (fun i hi => ⟨by rw [ga_1, pk_un (by omega)], by rw [ga_2, pk_un (by omega)], by rw [ga_3, pk_un (by omega)], rfl, rfl, fun k _ => rfl⟩) (hQ.inv.ga hc6 hB hbn)
        (fun k i hv h1 h2 => by
          rw [hfr _ (by have := hQ.lt hv; omega) (hQ.ap hv v20 h1) (fun h => by rw [heE h]; exact hQ.ap hv ⟨by omega, h⟩ h2)]
          exact hk2 _ (hQ.lt hv))
        j1 j4 ⟨j2, j3⟩ (e5w.imp id (fun h => by omega))
        (by
          rw [ga_1, ga_2, ga_3, pk_us, pk_us, pk_us, show gaT st (ce x y) n 6 (nC st) = 0 from hin5.2]
          exact y1.kept (hnw _ (Nat.le_refl _) (by omega))) (Nat.le_refl _)
        (by rw [hm0]; exact y2.kept (hnw _ (by omega) (by omega))) (by omega) (Or.inl ⟨rfl, rfl⟩) (by rw [hm0]; exact ⟨Nat.le_refl _, by omega⟩)
        (by omega) (Ne.symm e6n.1) (Ne.symm e6n.2) (fun h => absurd h (by omega))
      have hXP : XP z F ad (gaT st (ce x y) n) H H1 := ⟨_, _, _, hQ5, rfl, fun q hq => hq, fun q hq hF => by
        rw [hfr q (by omega) (fun e => hF (by rw [e]; exact hQ.2.2.1 2 0 v20 (by omega))) (fun h e => hF (by rw [e, heE h]; exact hQ.2.2.1 3 0 ⟨by omega, h⟩ (by omega)))]
        exact hk2 q hq⟩
      have hx5 : c1 z a (.inr (0, [.ref (ad 0 0)])) H1 := hx2.kept (hfr a (by omega) (fun e => hFa (by rw [e]; exact hQ.2.2.1 2 0 v20 (by omega))) (fun h e => hFa (by rw [e, heE h]; exact hQ.2.2.1 3 0 ⟨by omega, h⟩ (by omega))))
      have hq5 := (hQ2.q).kept (hfr _ (by have := hQ.lt (k := 0) (i := 0) rfl; omega) (hQ.ap (k := 0) (i := 0) rfl v20 (by omega)) (fun h => by rw [heE h]; exact hQ.ap (k := 0) (i := 0) rfl ⟨by omega, h⟩ (by omega)))
      refine lv_pop hx hb dX1_gather_69 rfl ?_
      refine lv_aload_n hx hb dX1_gather_70 rfl (lv_at hl 1 rfl) ?_
      refine gf_X1_39 C hx5 rfl dX1_gather_71 ?_
      refine gf_X1_65 C hq5 rfl dX1_gather_74 ?_
      refine cv_X1_69 C j1 hS (m_J2_size z l j1) (Nat.le_of_ble_eq_true rfl) hl.1 (Nat.le_of_ble_eq_true rfl) (by omega) (by omega) dX1_gather_77 (fun r_77 h_77 => ?_)
      subst h_77
      refine lv_iconst (v := 1) hx hb dX1_gather_80 (by decide) ?_
      refine lv_isub hx hb dX1_gather_81 ?_
      refine lv_seti (y := nI (nC st)) (nI_pred ..) ?_
      exact hR _ _ _ _ _ _ _ dX1_gather_82 rfl hS (by omega) (by omega) (⟨_, by unfold aGather; rw [ceB_t hce, inB_t h11, hg]; rfl, hXP⟩)

