set_option maxRecDepth 100000
def dirF (d : Int32) (k : Nat) : Int32 := (d >>> ((2 * nI k) &&& 31)) &&& 3
def shM (n : Int32) : Int32 := (1 <<< ((2 * n) &&& 31)) - 1
def rdT (st : St) (p : Nat) (d : Int32) (m : Nat) : St := fun g k => if g = 12 then (if 12 * p ≤ k ∧ k < 12 * p + m then dirF d (k - 12 * p) else st 12 k) else st g k
def prT (st : St) (x n d : Int32) : St := sSet (rdT (sSet (sSet st 7 (nP st) x) 11 (nP st) n) (nP st) d (cN n)) 10 1 (nI (nP st + 1))
def prG (st : St) (x y : Int32) : Bool := decide (nP st < 3) && frB st (ce x y)
def aPatrol (st : St) (x y n d : Int32) : Ans := cond (ceB x y) (cond (inB n 1 12 && inB d 0 (shM n)) (cond (prG st x y) (0, nI (nP st), prT st (ce x y) n d) (3, 0, st)) (2, 0, st)) (1, 0, st)
theorem bd_dir (d : Int32) (k : Nat) : Bd (dirF d k) 4 := by
  refine bd_of_toNat ?_ (by omega)
  unfold dirF
  rw [Int32.toBitVec_and, BitVec.toNat_and]
  exact Nat.lt_of_le_of_lt Nat.and_le_right (by decide)
section PR
variable {st : St} {x n d : Int32}
theorem pr_7 : prT st x n d 7 = upd (st 7) (nP st) x := rfl
theorem pr_11 : prT st x n d 11 = upd (st 11) (nP st) n := rfl
theorem pr_10 : prT st x n d 10 = upd (st 10) 1 (nI (nP st + 1)) := rfl
theorem pr_12 (k : Nat) : prT st x n d 12 k = if 12 * nP st ≤ k ∧ k < 12 * nP st + cN n then dirF d (k - 12 * nP st) else st 12 k := rfl
theorem pr_nP (h : nP st < 100) : nP (prT st x n d) = nP st + 1 := by
  show (prT st x n d 10 1).toNatClampNeg = _
  rw [pr_10, pk_us]
  exact nI_clamp (by omega)
theorem pr_nC : nC (prT st x n d) = nC st := rfl
theorem pr_12o {i k : Nat} (hi : i < nP st) (hk : k < 12) : prT st x n d 12 (12 * i + k) = st 12 (12 * i + k) := by rw [pr_12, if_neg (by omega)]
theorem pr_12n {k : Nat} (hk : k < cN n) : prT st x n d 12 (12 * nP st + k) = dirF d k := by rw [pr_12, if_pos (by omega), show 12 * nP st + k - 12 * nP st = k by omega]
theorem Inv.pr (h : Inv st) (hn : nP st < 3) (hx : Bd x 108) {N : Nat} (hN1 : 1 ≤ N) (hN2 : N ≤ 12) (hN : n = nI N) : Inv (prT st x n d) := by
  have e1 := pr_nP (st := st) (x := x) (n := n) (d := d) (by omega)
  have ecl : cN n = N := by rw [hN]; exact nI_clamp (by omega)
  have hlen := fun p hp => h.ln (p := p) hp
  obtain ⟨h1, h2, h3, h4, h5, h6⟩ := h
  refine ⟨⟨h1.1, h1.2.1, by rw [e1, pr_10, pk_us], by omega⟩, h2, h3, fun p hp => ?_, h5, fun p hp => ?_⟩
  · rw [e1] at hp
    by_cases e : p = nP st
    · subst e
      have h7 := h6 (nP st) (Nat.le_refl _)
      rw [pr_7, pr_11, pk_us, pk_us, ecl]
      refine ⟨hx, ⟨N - 1, by omega, ?_⟩, ⟨0, by omega, h7⟩, fun k hk => ?_⟩
      · rw [hN, show N = N - 1 + 1 by omega, ← nI_1]
        show nI (N - 1) + 1 - 1 = _
        grind
      · rw [pr_12n (by omega)]
        exact bd_dir d k
    · have g := h4 p (by omega)
      have g2 := hlen p (by omega)
      rw [pr_7, pr_11, pk_un e, pk_un e]
      exact ⟨g.1, g.2.1, g.2.2.1, fun k hk => by rw [pr_12o (by omega) (by omega)]; exact g.2.2.2 k hk⟩
  · rw [e1] at hp
    exact h6 p (by omega)
end PR

set_option maxHeartbeats 4000000 in
theorem m_X1_patrol (z : Zt) (l : Launch) {H : Heap} (hlT : l.stackTraces = false) {F : Nat → Prop} {ad : Nat → Nat → Nat} {st : St} {gh : Gh} (hQ : QW z F ad st gh H) {a : Nat} (hx9 : c1 z a (.inr (0, [.ref (ad 0 0)])) H) (hFa : ¬ F a) {x y n d : Int32} : Xi z l yX1_patrol cX1_patrol 8 .int [.ref a, .int x, .int y, .int n, .int d] H 9 8 79 (fun r H1 => ∃ st1, aPatrol st x y n d = (0, r, st1) ∧ XP z F ad st1 H H1) (fun E => (E = eI_ ∧ (aPatrol st x y n d).1 = 1) ∨ (E = eA_ ∧ (aPatrol st x y n d).1 = 2) ∨ (E = eS_ ∧ (aPatrol st x y n d).1 = 3)) := by
  refine en_Xi (own := RX1) (by decide) rfl (Nat.le_of_ble_eq_true rfl) ?_
  intro ag pp ev sS mM below meth cd ls Q C hS hl hR hX
  have hx := C.1.1
  have hb := C.1.2.1
  have hl : lv_has ls 8 [(0, .ref a), (1, .int x), (2, .int y), (3, .int n), (4, .int d)] := hl
  have hout : ¬ AA z (zs z 0) := C.tDE.out
  have hnP := hQ.nPi
  have hA0 : AA z H.size := (C.2.2.1.S hS).1
  have hlta := hx9.lt
  refine lv_iload_n hx hb dX1_patrol_0 rfl (lv_at hl 1 rfl) ?_
  refine lv_iload_n hx hb dX1_patrol_1 rfl (lv_at hl 2 rfl) ?_
  refine cv_X1_43 C hS (m_X1_cellAt z l hlT) (Nat.le_of_ble_eq_true rfl) hl.1 (Nat.le_of_ble_eq_true rfl) (by omega) (by omega) dX1_patrol_2 (fun E ce9 q9 H1 locs hpx hE hS h1 h2 h3 => hX _ _ _ _ _ _ _ _ _ _ h1 h2 h3 hS (by omega) (by omega) hE (Or.inl ⟨hpx.1, by unfold aPatrol; rw [ceB_f hpx.2]; rfl⟩)) (fun r_2 H1 locs h_2 hz_2 hS => ?_)
  obtain ⟨e2, h2, hce⟩ := h_2
  rw [e2] at hS ⊢
  subst h2
  have hB := ce_Bd hce
  refine lv_istore (lv' := [(5, _), (0, _), (1, _), (2, _), (3, _), (4, _)]) hx hb dX1_patrol_5 hl (by decide) rfl (fun ls hl => ?_)
  refine lv_iconst (v := 1) hx hb dX1_patrol_7 (by decide) ?_
  refine lv_bipush (v := 12) hx hb dX1_patrol_8 (by decide) ?_
  refine lv_iload_n hx hb dX1_patrol_10 rfl (lv_at hl 4 rfl) ?_
  refine cv_X1_58 C hS (m_X1_requireFrom z l hlT) (Nat.le_of_ble_eq_true rfl) hl.1 (Nat.le_of_ble_eq_true rfl) (by omega) (by omega) dX1_patrol_11 (fun E ce9 q9 H1 locs hpx hE hS h1 h2 h3 => hX _ _ _ _ _ _ _ _ _ _ h1 h2 h3 hS (by omega) (by omega) hE (Or.inr (Or.inl ⟨hpx.1, by unfold aPatrol; rw [ceB_t hce, and_l (inB_f hpx.2)]; rfl⟩))) (fun H1 locs h_11 hz_11 hS => ?_)
  obtain ⟨e11, h11⟩ := h_11
  rw [e11] at hS ⊢
  obtain ⟨N, hN1, hN2, hN⟩ := inB_ex (lo := 1) (hi := 12) (by omega) h11 (by omega)
  refine lv_iconst (v := 0) hx hb dX1_patrol_14 (by decide) ?_
  refine lv_iconst (v := 1) hx hb dX1_patrol_15 (by decide) ?_
  refine lv_iconst (v := 2) hx hb dX1_patrol_16 (by decide) ?_
  refine lv_iload_n hx hb dX1_patrol_17 rfl (lv_at hl 4 rfl) ?_
  refine lv_imul hx hb dX1_patrol_18 ?_
  refine lv_ishl hx hb dX1_patrol_19 ?_
  refine lv_iconst (v := 1) hx hb dX1_patrol_20 (by decide) ?_
  refine lv_isub hx hb dX1_patrol_21 ?_
  refine lv_iload hx hb dX1_patrol_22 (lv_at hl 5 rfl) ?_
  refine cv_X1_58 C hS (m_X1_requireFrom z l hlT) (Nat.le_of_ble_eq_true rfl) hl.1 (Nat.le_of_ble_eq_true rfl) (by omega) (by omega) dX1_patrol_24 (fun E ce9 q9 H1 locs hpx hE hS h1 h2 h3 => hX _ _ _ _ _ _ _ _ _ _ h1 h2 h3 hS (by omega) (by omega) hE (Or.inr (Or.inl ⟨hpx.1, by unfold aPatrol; rw [ceB_t hce, and_r (show inB d 0 (shM n) = false from inB_f hpx.2)]; rfl⟩))) (fun H1 locs h_24 hz_24 hS => ?_)
  obtain ⟨e24, h24⟩ := h_24
  rw [e24] at hS ⊢
  have h24 : inB d 0 (shM n) = true := inB_t h24
  refine lv_aload_n hx hb dX1_patrol_27 rfl (lv_at hl 1 rfl) ?_
  refine gf_X1_39 C hx9 rfl dX1_patrol_28 ?_
  refine gf_X1_104 C hQ.q rfl dX1_patrol_31 ?_
  refine cv_X1_69 C hQ.lp hS (m_J2_size z l hQ.lp) (Nat.le_of_ble_eq_true rfl) hl.1 (Nat.le_of_ble_eq_true rfl) (by omega) (by omega) dX1_patrol_34 (fun r_34 h_34 => ?_)
  subst h_34
  refine lv_iconst (v := 3) hx hb dX1_patrol_37 (by decide) ?_
  refine lv_icmp_ge (tgt := 57) hx hb dX1_patrol_38 (by decide) (fun c_38 => ?_) (fun c_38 => ?_)
  · skip
    have hg : prG st x y = false := by unfold prG; rw [decide_eq_false (fun h9 => absurd c_38 (nI_ge (b := 3) h9 (by omega)))]; rfl
    refine lv_iconst (v := 0) hx hb dX1_patrol_57 (by decide) ?_
    refine cv_X1_55 C hS (m_X1_requireState z l hlT) (Nat.le_of_ble_eq_true rfl) hl.1 (Nat.le_of_ble_eq_true rfl) (by omega) (by omega) dX1_patrol_58 (fun E ce9 q9 H1 locs hpx hE hS h1 h2 h3 => hX _ _ _ _ _ _ _ _ _ _ h1 h2 h3 hS (by omega) (by omega) hE (Or.inr (Or.inr ⟨hpx.1, by unfold aPatrol; rw [ceB_t hce, and_t (inB_t h11) h24, hg]; rfl⟩))) (fun H1 locs h_58 hz_58 hS => ?_)
    exact absurd rfl h_58.2
  · skip
    have hp3 : nP st < 3 := Nat.not_le.mp (fun h9 => c_38 (nI_le (a := 3) h9 (by omega)))
    refine lv_aload_n hx hb dX1_patrol_41 rfl (lv_at hl 1 rfl) ?_
    refine gf_X1_39 C hx9 rfl dX1_patrol_42 ?_
    refine lv_iload hx hb dX1_patrol_45 (lv_at hl 0 rfl) ?_
    refine cv_X1_72 C hQ.q hS (m_X2_isFree z l hQ (Or.inr hB)) (Nat.le_of_ble_eq_true rfl) hl.1 (Nat.le_of_ble_eq_true rfl) (by omega) (by omega) dX1_patrol_47 (fun r_47 h_47 => ?_)
    subst h_47
    refine lv_if_eq (tgt := 57) hx hb dX1_patrol_50 (by decide) (fun c_50 => ?_) (fun c_50 => ?_)
    · skip
      have hg : prG st x y = false := by unfold prG; rw [bI_f c_50, Bool.and_false]
      refine lv_iconst (v := 0) hx hb dX1_patrol_57 (by decide) ?_
      refine cv_X1_55 C hS (m_X1_requireState z l hlT) (Nat.le_of_ble_eq_true rfl) hl.1 (Nat.le_of_ble_eq_true rfl) (by omega) (by omega) dX1_patrol_58 (fun E ce9 q9 H1 locs hpx hE hS h1 h2 h3 => hX _ _ _ _ _ _ _ _ _ _ h1 h2 h3 hS (by omega) (by omega) hE (Or.inr (Or.inr ⟨hpx.1, by unfold aPatrol; rw [ceB_t hce, and_t (inB_t h11) h24, hg]; rfl⟩))) (fun H1 locs h_58 hz_58 hS => ?_)
      exact absurd rfl h_58.2
    · skip
      have hg : prG st x y = true := by unfold prG; rw [bI_t c_50, decide_eq_true hp3]; rfl
      refine lv_iconst (v := 1) hx hb dX1_patrol_53 (by decide) ?_
      refine lv_goto (tgt := 58) hx hb dX1_patrol_54 (by decide) ?_
      refine cv_X1_55 C hS (m_X1_requireState z l hlT) (Nat.le_of_ble_eq_true rfl) hl.1 (Nat.le_of_ble_eq_true rfl) (by omega) (by omega) dX1_patrol_58 (fun E ce9 q9 H1 locs hpx hE hS h1 h2 h3 => hX _ _ _ _ _ _ _ _ _ _ h1 h2 h3 hS (by omega) (by omega) hE (absurd hpx.2 (by decide))) (fun H1 locs h_58 hz_58 hS => ?_)
      obtain ⟨e58, h58⟩ := h_58
      rw [e58] at hS ⊢
      have hA : aPatrol st x y n d = (0, nI (nP st), prT st (ce x y) n d) := by unfold aPatrol; rw [ceB_t hce, and_t (inB_t h11) h24, hg]; rfl
      refine lv_iload_n hx hb dX1_patrol_61 rfl (lv_at hl 4 rfl) ?_
      refine r_newi C (by rw [hN]; exact nI_pos (by omega)) (N := N) (by rw [hN]; exact nI_clamp (by omega)) (by omega) hS (by omega) (by omega) dX1_patrol_62 (fun H1 hn hS => ?_)
      have hn0 := hn
      have s0 := hn0.2.1
      refine lv_astore (lv' := [(6, _), (5, _), (0, _), (1, _), (2, _), (3, _), (4, _)]) hx hb dX1_patrol_64 hl (by decide) rfl (fun ls hl => ?_)
      refine lv_iconst (v := 0) hx hb dX1_patrol_66 (by decide) ?_
      refine lv_istore (lv' := [(7, _), (6, _), (5, _), (0, _), (1, _), (2, _), (3, _), (4, _)]) hx hb dX1_patrol_67 hl (by decide) rfl (fun ls hl => ?_)
      have L69 : ∀ (k9 : Nat) (k : Nat) (H3 : Heap) (locs : List Loc) (ls : Array Slot), k ≤ N → N + 1 ≤ k + k9 → c1 z H.size (aI z N (fun i => if i < k then dirF d i else 0)) H3 → H3.size = H.size + 1 → (∀ q, q < H.size → H3[q]? = H[q]?) → va_S (AA z) sS.heap H3 locs → lv_has ls 8 [(7, .int (nI k)), (6, .ref H.size), (5, .int (ce x y)), (0, .ref a), (3, .int n), (4, .int d)] → W pp l ev (RL 9 8 79) sS mM ag below meth cd H3 locs 6 (30 + N) Q (F0 mM 69 ls []) := by
        intro k9
        induction k9 with
        | zero =>
          intro k H3 locs ls hk0 hk1 hr3 s3 hf3 hS hl
          omega
        | succ k9 ih =>
          intro k H3 locs ls hk0 hk1 hr3 s3 hf3 hS hl
          refine lv_iload hx hb dX1_patrol_69 (lv_at hl 0 rfl) ?_
          refine lv_iload_n hx hb dX1_patrol_71 rfl (lv_at hl 4 rfl) ?_
          refine lv_icmp_ge (tgt := 95) hx hb dX1_patrol_72 (by decide) (fun c_72 => ?_) (fun c_72 => ?_)
          · skip
            have hke : k = N := by rw [hN] at c_72; exact lp_end hk0 c_72 (by omega)
            refine lv_aload_n hx hb dX1_patrol_95 rfl (lv_at hl 3 rfl) ?_
            have hQ3 := hQ.kept (H1 := H3) (fun k i hv => hf3 _ (hQ.lt hv))
            refine gf_X1_39 C (hx9.kept (hf3 a hlta)) rfl dX1_patrol_96 ?_
            refine gf_X1_104 C hQ3.q rfl dX1_patrol_99 ?_
            refine r_new (ci := 6) (fs := [.int 0, .null, .int 0]) (C := RX6) (T := TX6) (N := 3) C in_X6 tyX6 tyX6_ok (C.1.2.2.2.2 _ q243) (C.1.2.2.2.2 _ q586) (C.1.2.2.2.2 _ q62) rfl (fun j hj => by rcases (show j = 0 ∨ j = 1 ∨ j = 2 by omega) with rfl | rfl | rfl <;> rfl) hS (by omega) (by omega) dX1_patrol_102 (fun H1 hn hS => ?_)
            have hn1 := hn
            have s1 := hn1.2.1
            have hn1a := hn1.1
            rw [s3] at hn1a ⊢
            refine lv_dup hx hb dX1_patrol_105 rfl ?_
            refine lv_iload hx hb dX1_patrol_106 (lv_at hl 2 rfl) ?_
            refine lv_aload hx hb dX1_patrol_108 (lv_at hl 1 rfl) ?_
            refine cv_X1_109 C hS (m_X6_init z l hn1a (Nat.le_succ_of_le hA0)) (Nat.le_of_ble_eq_true rfl) hl.1 (Nat.le_of_ble_eq_true rfl) (by omega) (by omega) dX1_patrol_110 (fun H1 locs h_110 hz_110 hS => ?_)
            have hu1 := h_110
            have s2 := hu1.2.1
            have hk2 : ∀ q, q < H.size → H1[q]? = H[q]? := fun q hq => by rw [hu1.2.2 q (by omega), hn1.2.2 q (by omega), hf3 q hq]
            have y1 := hu1.1
            have y2 : c1 z H.size (aI z N (fun i => if i < k then dirF d i else 0)) H1 := (hr3.ext hn1.ext).up hu1 (by omega)
            have hQ2 := hQ.kept (H1 := H1) (fun k i hv => hk2 _ (hQ.lt hv))
            have hx2 := hx9.kept (hk2 a hlta)
            have hS4 := hS
            have s4 : H1.size = H.size + 2 := by rw [s2, s1, s3]
            generalize hH4 : H1 = H4 at y1 y2 s4 hk2 hQ2 hx2 hS4 hS ⊢
            refine cv_X1_79 C hQ2.lp hS (m_addL z l hQ2 (i := 1) (by omega) (show nP st ≤ 23 by omega) hout (Or.inr (Or.inl ⟨_, y1⟩))) (Nat.le_of_ble_eq_true rfl) hl.1 (Nat.le_of_ble_eq_true rfl) (by omega) (by omega) dX1_patrol_113 (fun r_113 H1 locs h_113 hz_113 hS => ?_)
            have hadd := h_113.2
            have hfr := hadd.fr (fun h => by unfold eA; rw [if_pos h]) (C.2.2.1.S hS4) (C.2.2.1.S hS) hout
            obtain ⟨e6, cap6, j1, j2, j3, j4, j5, -⟩ := hadd
            have j1 : c1 z (ad 2 1) (.inr (2, [.int (gh.1 1 + 1), .ref e6, .int (nI (nP st + 1))])) H1 := j1
            have v20 : Vq st gh 2 1 := show 1 < nC st + 2 by omega
            have heE : 0 < gh.2 1 → eA z ad gh 1 = ad 3 1 := fun h => by unfold eA; rw [if_neg (by omega)]
            have l20 := hQ.lt v20
            have l30 : 0 < gh.2 1 → ad 3 1 < H.size := fun h => hQ.lt (k := 3) (i := 1) ⟨by omega, h⟩
            have hnw : ∀ q, H.size ≤ q → q < H.size + 2 → H1[q]? = H4[q]? := fun q h1 h2 => hfr q (by omega) (by omega) (fun h => by rw [heE h]; have := l30 h; omega)
            have hin8 := hQ.inv.2.2.2.2.2 (nP st) (Nat.le_refl _)
            have ecl : cN n = N := by rw [hN]; exact nI_clamp (by omega)
            have e5w : (0 < gh.2 1 ∧ e6 = ad 3 1) ∨ H.size + 2 ≤ e6 := by
              rcases j5 with ⟨g1, -, g3, -⟩ | ⟨g1, -⟩
              · exact Or.inl ⟨g3, by rw [g1]; exact heE g3⟩
              · exact Or.inr (by rw [g1]; omega)
            have e6n : e6 ≠ H.size ∧ e6 ≠ H.size + 1 := by
              rcases e5w with ⟨g1, g2⟩ | g1
              · have := l30 g1; exact ⟨Nat.ne_of_lt (by rw [g2]; omega), Nat.ne_of_lt (by rw [g2]; omega)⟩
              · exact ⟨Nat.ne_of_gt (by omega), Nat.ne_of_gt (by omega)⟩
            have hQ5 := QW.addP (N := H.size + 1) (b := H.size + 1) (ra := H.size) (e0 := e6) (cap0 := cap6) (md0 := gh.1 1 + 1) (st' := prT st (ce x y) n d) (H1 := H1) hQ (fun k i hv _ => Nat.lt_succ_of_lt (hQ.lt hv)) (Nat.le_succ_of_le hA0) rfl rfl rfl rfl rfl rfl rfl rfl rfl (pr_nP (by omega))
              (fun i hi => ⟨by rw [pr_7, pk_un (by omega)], rfl, by rw [pr_11, pk_un (by omega)], fun k hk9 => pr_12o hi (by have := (hQ.inv.ln hi).1; omega)⟩) (hQ.inv.pr hp3 hB hN1 hN2 hN)
              (fun k i hv h1 h2 => by
                rw [hfr _ (by have := hQ.lt hv; omega) (hQ.ap hv v20 h1) (fun h => by rw [heE h]; exact hQ.ap hv ⟨by omega, h⟩ h2)]
                exact hk2 _ (hQ.lt hv))
              j1 j4 ⟨j2, j3⟩ (e5w.imp id (fun h => by omega))
              (by
                rw [pr_7, pk_us, show prT st (ce x y) n d 8 (nP st) = 0 from hin8]
                exact y1.kept (hnw _ (by omega) (by omega))) (Nat.le_refl _)
              (by
                rw [pr_11, pk_us, ecl]
                exact c1_cgI (y2.kept (hnw _ (Nat.le_refl _) (by omega))) (fun k9 hk9 => by rw [if_pos (by omega), pr_12n (by omega)])) hA0
              (fun k i hv => Nat.ne_of_gt (hQ.lt hv)) (fun i hi => Or.inl (Nat.lt_succ_of_lt (hQ.lt (k := 6) (i := i) hi)))
              (by omega) (Ne.symm e6n.2) (Ne.symm e6n.1)
            have hXP : XP z F ad (prT st (ce x y) n d) H H1 := ⟨_, _, _, hQ5, rfl, fun q hq => hq.imp id (fun h => by omega), fun q hq hF => by
              rw [hfr q (by omega) (fun e => hF (by rw [e]; exact hQ.2.2.1 2 1 v20 (by omega))) (fun h e => hF (by rw [e, heE h]; exact hQ.2.2.1 3 1 ⟨by omega, h⟩ (by omega)))]
              exact hk2 q hq⟩
            have hx5 : c1 z a (.inr (0, [.ref (ad 0 0)])) H1 := hx2.kept (hfr a (by omega) (fun e => hFa (by rw [e]; exact hQ.2.2.1 2 1 v20 (by omega))) (fun h e => hFa (by rw [e, heE h]; exact hQ.2.2.1 3 1 ⟨by omega, h⟩ (by omega))))
            have hq5 := (hQ2.q).kept (hfr _ (by have := hQ.lt (k := 0) (i := 0) rfl; omega) (hQ.ap (k := 0) (i := 0) rfl v20 (by omega)) (fun h => by rw [heE h]; exact hQ.ap (k := 0) (i := 0) rfl ⟨by omega, h⟩ (by omega)))
            refine lv_pop hx hb dX1_patrol_116 rfl ?_
            refine lv_aload_n hx hb dX1_patrol_117 rfl (lv_at hl 3 rfl) ?_
            refine gf_X1_39 C hx5 rfl dX1_patrol_118 ?_
            refine gf_X1_104 C hq5 rfl dX1_patrol_121 ?_
            refine cv_X1_69 C j1 hS (m_J2_size z l j1) (Nat.le_of_ble_eq_true rfl) hl.1 (Nat.le_of_ble_eq_true rfl) (by omega) (by omega) dX1_patrol_124 (fun r_124 h_124 => ?_)
            subst h_124
            refine lv_iconst (v := 1) hx hb dX1_patrol_127 (by decide) ?_
            refine lv_isub hx hb dX1_patrol_128 ?_
            refine lv_seti (y := nI (nP st)) (nI_pred ..) ?_
            exact hR _ _ _ _ _ _ _ dX1_patrol_129 rfl hS (by omega) (by omega) (⟨_, hA, hXP⟩)
          · skip
            have hk : k < N := by rw [hN] at c_72; exact lp_in hk0 c_72 (by omega)
            refine lv_aload hx hb dX1_patrol_75 (lv_at hl 1 rfl) ?_
            refine lv_iload hx hb dX1_patrol_77 (lv_at hl 0 rfl) ?_
            refine lv_iload hx hb dX1_patrol_79 (lv_at hl 5 rfl) ?_
            refine lv_iconst (v := 2) hx hb dX1_patrol_81 (by decide) ?_
            refine lv_iload hx hb dX1_patrol_82 (lv_at hl 0 rfl) ?_
            refine lv_imul hx hb dX1_patrol_84 ?_
            refine lv_ishr hx hb dX1_patrol_85 ?_
            refine lv_iconst (v := 3) hx hb dX1_patrol_86 (by decide) ?_
            refine lv_iand hx hb dX1_patrol_87 ?_
            refine g_iast C hr3 (vp_in_nI hk (by omega)) hS hA0 dX1_patrol_88 (fun H1 locs hu hS => ?_)
            have hu4 := hu
            have hr4 : c1 z H.size (aI z N (fun i => if i < k + 1 then dirF d i else 0)) _ := c1_cgI hu4.1 (fun i hi => by
              rw [nI_clamp (by omega)]
              unfold upd
              by_cases e : i = k
              · rw [if_pos e, if_pos (by omega), e]; rfl
              · rw [if_neg e]
                show (if i < k then dirF d i else 0) = _
                by_cases g : i < k
                · rw [if_pos g, if_pos (by omega)]
                · rw [if_neg g, if_neg (by omega)])
            refine lv_iinc (lv' := [(7, _), (6, _), (5, _), (0, _), (3, _), (4, _)]) hx hb dX1_patrol_89 hl (k := 0) rfl (v := nI (k + 1)) (nI_1 k) (by decide) rfl (fun ls hl => ?_)
            refine lv_goto (tgt := 69) hx hb dX1_patrol_92 (by decide) ?_
            exact ih (k + 1) _ _ _ (by omega) (by omega) hr4 (by rw [hu4.2.1, s3]) (fun q hq => by rw [hu4.2.2 q (by omega), hf3 q hq]) hS hl
      refine W.cs (cells' := 6) (slots' := 30 + N) (by omega) (by omega) ?_
      exact L69 (N + 1) 0 _ _ _ (by omega) (by omega) (c1_cgI hn0.1 (fun k hk => by rw [if_neg (by omega)])) s0 hn0.2.2 hS (by rw [nI_0]; exact lv_sub hl [0, 1, 2, 3, 6, 7] rfl)

