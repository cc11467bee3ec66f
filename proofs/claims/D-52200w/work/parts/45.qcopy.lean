set_option maxRecDepth 100000
set_option maxHeartbeats 4000000 in
theorem m_X2_copy (z : Zt) (l : Launch) {H : Heap} {F : Nat → Prop} {ad : Nat → Nat → Nat} {st : St} {gh : Gh} (hQ : QW z F ad st gh H) : Kq z l yX2_copy cX2_copy 3 (.object "LaneCrowds$Quarter") [.ref (ad 0 0)] H 9 172 5377 (fun r H1 => r = some H.size ∧ Ext H H1 ∧ ∃ ad' gh', QW z (fun q => H.size ≤ q) ad' st gh' H1 ∧ ad' 0 0 = H.size) := by
  refine en_Kq (own := RX2) (by decide) rfl (Nat.le_of_ble_eq_true rfl) (Or.inl ⟨_, rfl⟩) ?_
  intro ag pp ev sS mM below meth cd ls Q C hS hl hR
  have hx := C.1.1
  have hb := C.1.2.1
  have hl : lv_has ls 3 [(0, .ref (ad 0 0))] := hl
  have hA0 : AA z H.size := (C.2.2.1.S hS).1
  have hQ0 := hQ
  have hout : ¬ AA z (zs z 0) := C.tDE.out
  have hnC := hQ.nCi
  have hnP := hQ.nPi
  refine r_new (ci := 1) (fs := [.int 0, .null, .null, .null]) (C := RX2) (T := TX2) (N := 4) C in_X2 tyX2 tyX2_ok (C.1.2.2.2.2 _ q714) (C.1.2.2.2.2 _ q72) (C.1.2.2.2.2 _ q38) rfl (fun j hj => by rcases (show j = 0 ∨ j = 1 ∨ j = 2 ∨ j = 3 by omega) with rfl | rfl | rfl | rfl <;> rfl) hS (by omega) (by omega) dX2_copy_0 (fun H1 hn hS => ?_)
  have hn0 := hn
  have s0 := hn0.2.1
  refine lv_dup hx hb dX2_copy_3 rfl ?_
  refine cv_X2_25 C hS (m_X2_init z l hn0.1 hA0) (Nat.le_of_ble_eq_true rfl) hl.1 (Nat.le_of_ble_eq_true rfl) (by omega) (by omega) dX2_copy_4 (fun H1 locs h_4 hz_4 hS => ?_)
  obtain ⟨i1, i2, i3, i4, i5, i6⟩ := h_4
  rw [s0] at i1 i2 i3 i4 i5
  have hE1 : Ext H H1 := ⟨by omega, fun q h => by rw [i6 q (by omega) (by omega), hn0.2.2 q h]⟩
  have hQ1 := hQ0.ext hE1
  refine lv_astore_n (lv' := [(1, _), (0, _)]) hx hb dX2_copy_7 rfl hl (by decide) rfl (fun ls hl => ?_)
  refine lv_aload_n hx hb dX2_copy_8 rfl (lv_at hl 0 rfl) ?_
  refine lv_aload_n hx hb dX2_copy_9 rfl (lv_at hl 1 rfl) ?_
  refine gf_X2_26 C hQ1.q rfl dX2_copy_10 ?_
  refine pf_X2_26 C i1 (Nat.le_of_ble_eq_true rfl) rfl rfl hS hA0 dX2_copy_13 (fun H1 locs hu hS => ?_)
  have hu1 := hu
  have t1 := hu1.2.1
  have k2 := i2.up hu1 (by omega)
  have k3 := i3.up hu1 (by omega)
  have k4 := i4.up hu1 (by omega)
  have hE2 : Ext H H1 := ⟨by omega, fun q h => by rw [hu1.2.2 q (by omega), hE1.2 q h]⟩
  have hQ2 := hQ0.ext hE2
  refine lv_aload_n hx hb dX2_copy_16 rfl (lv_at hl 1 rfl) ?_
  refine gf_X2_9 C hQ2.q rfl dX2_copy_17 ?_
  refine lv_iconst (v := 0) hx hb dX2_copy_20 (by decide) ?_
  refine lv_aload_n hx hb dX2_copy_21 rfl (lv_at hl 0 rfl) ?_
  refine gf_X2_9 C hu1.1 rfl dX2_copy_22 ?_
  refine lv_iconst (v := 0) hx hb dX2_copy_25 (by decide) ?_
  refine lv_bipush (v := 108) hx hb dX2_copy_26 (by decide) ?_
  refine g_copyi C hl.1 (C.1.2.2.2.2 _ q716) hQ2.cs k2 (by decide) (by decide) (by decide) (by decide) (by decide) hS (Nat.le_succ_of_le hA0) (Nat.le_of_ble_eq_true rfl) (Nat.le_of_ble_eq_true rfl) dX2_copy_28 (fun H1 locs hu hS => ?_)
  have hu2 := hu
  have t2 := hu2.2.1
  have hE3 : Ext H H1 := ⟨by omega, fun q h => by rw [hu2.2.2 q (by omega), hE2.2 q h]⟩
  have e10a : nC (cpS st 0 0) = 0 := rfl
  have hQc : QW z (fun q => H.size ≤ q) (ad0 H.size (H.size + 1)) (cpS st 0 0) (fun _ => 0, fun _ => 0) H1 := QW.zero rfl rfl (hQ0.inv.cp (by omega) (by omega)) hA0 (Nat.le_succ_of_le hA0) (by omega) (fun q h => by show _ ≤ _; omega) (hu1.1.up hu2 (by omega)) (c1_cgI hu2.1 (fun k hk => by
    show va_cpy (st 0) (fun _ => 0) (0 : Int32).toNatClampNeg (0 : Int32).toNatClampNeg (108 : Int32).toNatClampNeg k = st 0 k
    rw [c0, show (108 : Int32).toNatClampNeg = 108 from by decide, pk_cpy_in (by omega) (by omega)]
    congr 1
    omega)) (k3.up hu2 (by omega)) (k4.up hu2 (by omega))
  generalize H1 = H9 at hQc hE3 hS ⊢
  refine W.cs (cells' := 4 + 27 * 0) (slots' := 118 + 858 * 0) (by omega) (by omega) ?_
  refine lv_iconst (v := 0) hx hb dX2_copy_31 (by decide) ?_
  refine lv_istore_n (lv' := [(2, _), (1, _), (0, _)]) hx hb dX2_copy_32 rfl hl (by decide) rfl (fun ls hl => ?_)
  have L33 : ∀ (k9 : Nat) (k : Nat) (H3 : Heap) (locs : List Loc) (adk : Nat → Nat → Nat) (ghk : Gh) (ls : Array Slot), k ≤ nC st → nC st + 1 ≤ k + k9 → QW z (fun q => H.size ≤ q) adk (cpS st k 0) ghk H3 → adk 0 0 = H.size → Ext H H3 → va_S (AA z) sS.heap H3 locs → lv_has ls 3 [(2, .int (nI k)), (1, .ref H.size), (0, .ref (ad 0 0))] → W pp l ev (RL 9 172 5377) sS mM ag below meth cd H3 locs (4 + 27 * k) (118 + 858 * k) Q (F0 mM 33 ls []) := by
    intro k9
    induction k9 with
    | zero =>
      intro k H3 locs adk ghk ls hk0 hk1 hC ha0 hE hS hl
      omega
    | succ k9 ih =>
      intro k H3 locs adk ghk ls hk0 hk1 hC ha0 hE hS hl
      have hQ := hQ0.ext hE
      have hCn : nC (cpS st k 0) = k := cp_nC (by omega)
      have hCp : nP (cpS st k 0) = 0 := rfl
      have hCq := hC.q
      rw [ha0] at hCq
      refine lv_iload_n hx hb dX2_copy_33 rfl (lv_at hl 0 rfl) ?_
      refine lv_aload_n hx hb dX2_copy_34 rfl (lv_at hl 2 rfl) ?_
      refine gf_X2_18 C hQ.q rfl dX2_copy_35 ?_
      refine cv_X2_36 C hQ.lc hS (m_J2_size z l hQ.lc) (Nat.le_of_ble_eq_true rfl) hl.1 (Nat.le_of_ble_eq_true rfl) (by omega) (by omega) dX2_copy_38 (fun r_38 h_38 => ?_)
      subst h_38
      refine lv_icmp_ge (tgt := 72) hx hb dX2_copy_41 (by decide) (fun c_41 => ?_) (fun c_41 => ?_)
      · skip
        have hke : k = nC st := lp_end hk0 c_41 (by omega)
        refine W.widen (k := 166 + 2 * 0) (n := 5266 + 37 * 0) (by omega) (by omega) ?_
        rw [hke] at hC
        refine lv_iconst (v := 0) hx hb dX2_copy_72 (by decide) ?_
        refine lv_istore_n (lv' := [(2, _), (1, _), (0, _)]) hx hb dX2_copy_73 rfl hl (by decide) rfl (fun ls hl => ?_)
        have L74 : ∀ (k9 : Nat) (k : Nat) (H3 : Heap) (locs : List Loc) (adk : Nat → Nat → Nat) (ghk : Gh) (ls : Array Slot), k ≤ nP st → nP st + 1 ≤ k + k9 → QW z (fun q => H.size ≤ q) adk (cpS st (nC st) k) ghk H3 → adk 0 0 = H.size → (∀ i, i < k → adk 6 i = ad 6 i) → Ext H H3 → va_S (AA z) sS.heap H3 locs → lv_has ls 3 [(2, .int (nI k)), (1, .ref H.size), (0, .ref (ad 0 0))] → W pp l ev (RL 9 172 5377) sS mM ag below meth cd H3 locs (166 + 2 * k) (5266 + 37 * k) Q (F0 mM 74 ls []) := by
          intro k9
          induction k9 with
          | zero =>
            intro k H3 locs adk ghk ls hk0 hk1 hC ha0 ha6 hE hS hl
            omega
          | succ k9 ih =>
            intro k H3 locs adk ghk ls hk0 hk1 hC ha0 ha6 hE hS hl
            have hQ := hQ0.ext hE
            have hCn : nC (cpS st (nC st) k) = nC st := cp_nC (by omega)
            have hCp : nP (cpS st (nC st) k) = k := cp_nP (by omega)
            have hCq := hC.q
            rw [ha0] at hCq
            refine lv_iload_n hx hb dX2_copy_74 rfl (lv_at hl 0 rfl) ?_
            refine lv_aload_n hx hb dX2_copy_75 rfl (lv_at hl 2 rfl) ?_
            refine gf_X2_22 C hQ.q rfl dX2_copy_76 ?_
            refine cv_X2_36 C hQ.lp hS (m_J2_size z l hQ.lp) (Nat.le_of_ble_eq_true rfl) hl.1 (Nat.le_of_ble_eq_true rfl) (by omega) (by omega) dX2_copy_79 (fun r_79 h_79 => ?_)
            subst h_79
            refine lv_icmp_ge (tgt := 113) hx hb dX2_copy_82 (by decide) (fun c_82 => ?_) (fun c_82 => ?_)
            · skip
              have hke2 : k = nP st := lp_end hk0 c_82 (by omega)
              rw [hke2, cp_all hQ0.inv] at hC
              refine lv_aload_n hx hb dX2_copy_113 rfl (lv_at hl 1 rfl) ?_
              exact hR _ _ (some _) _ _ _ _ dX2_copy_114 hS (by omega) (by omega) (⟨rfl, hE, adk, ghk, hC, ha0⟩)
            · skip
              have hk : k < nP st := lp_in hk0 c_82 (by omega)
              refine lv_aload_n hx hb dX2_copy_85 rfl (lv_at hl 1 rfl) ?_
              refine gf_X2_22 C hCq rfl dX2_copy_86 ?_
              refine lv_aload_n hx hb dX2_copy_89 rfl (lv_at hl 2 rfl) ?_
              refine gf_X2_22 C hQ.q rfl dX2_copy_90 ?_
              refine lv_iload_n hx hb dX2_copy_93 rfl (lv_at hl 0 rfl) ?_
              refine cv_X2_40 C hQ.lp hS (m_getP z l hQ hk) (Nat.le_of_ble_eq_true rfl) hl.1 (Nat.le_of_ble_eq_true rfl) (by omega) (by omega) dX2_copy_94 (fun r_94 h_94 => ?_)
              subst h_94
              refine va_castE hx hb C.1.2.2.2.1 (C.1.2.2.2.2 _ q228) ((hQ.p hk).recv C.2.1 rfl) dX2_copy_97 ?_
              refine cv_X2_56 C (hQ.p hk) hS (m_X6_copy z l (hQ.p hk)) (Nat.le_of_ble_eq_true rfl) hl.1 (Nat.le_of_ble_eq_true rfl) (by omega) (by omega) dX2_copy_100 (fun r_100 H1 locs h_100 hz_100 hS => ?_)
              obtain ⟨rfl, x1⟩ := h_100
              have x3 := x1.ext
              have hzx := x1.2.1
              have hC4 := hC.ext x3
              have hS4 := hS
              have hl4 := hC4.lp
              rw [hCp] at hl4
              have hcap4 := hC4.cap (i := 1) (by omega)
              have hcap41 : k ≤ ghk.2 1 := by have := hcap4.1; rw [show lsz (cpS st (nC st) k) 1 = k from hCp] at this; exact this
              generalize hH4 : H1 = H4 at x1 x3 hC4 hS4 hl4 hzx hS ⊢
              refine cv_X2_50 C hl4 hS (m_J2_add z l (f := qel z adk (cpS st (nC st) k) 1) hl4 (hC4.aa (k := 2) (i := 1) (show 1 < nC (cpS st (nC st) k) + 2 by omega)) (hC4.eL (i := 1) (by omega)) (fun h => by unfold eA; rw [if_neg (by omega)]; exact hC4.aa (k := 3) (i := 1) ⟨by omega, h⟩) (by
    unfold eA
    split
    · intro h9
      have h8 := hC4.aa (k := 2) (i := 1) (show 1 < nC (cpS st (nC st) k) + 2 by omega)
      rw [h9] at h8
      exact hout h8
    · rename_i g
      exact hC4.ap (k := 2) (i := 1) (k' := 3) (i' := 1) (show 1 < nC (cpS st (nC st) k) + 2 by omega) ⟨by omega, by omega⟩ (by omega)) (by omega) hcap41 hcap4.2 (fun i hi => if_neg (by rw [hCp]; omega)) (fun i hi y hy => by
    rw [QW.el1 (by rw [hCp]; exact hi)] at hy
    cases hy
    exact Or.inr (Or.inl ⟨_, hC4.p (by rw [hCp]; exact hi)⟩)) (Or.inr (Or.inl ⟨_, x1.1⟩))) (Nat.le_of_ble_eq_true rfl) hl.1 (Nat.le_of_ble_eq_true rfl) (by omega) (by omega) dX2_copy_103 (fun r_103 H1 locs h_103 hz_103 hS => ?_)
              have hadd := h_103.2
              have hfr := hadd.fr (fun h => by unfold eA; rw [if_pos h]) (C.2.2.1.S hS4) (C.2.2.1.S hS) hout
              obtain ⟨e6, cap6, j1, j2, j3, j4, j5, -⟩ := hadd
              have v21 : Vq (cpS st (nC st) k) ghk 2 1 := show 1 < nC (cpS st (nC st) k) + 2 by omega
              have hlt21 := hC.lt v21
              have heE : 0 < ghk.2 1 → eA z adk ghk 1 = adk 3 1 := fun h => by unfold eA; rw [if_neg (by omega)]
              have hlt31 : 0 < ghk.2 1 → adk 3 1 < H3.size := fun h => hC.lt (k := 3) (i := 1) ⟨by omega, h⟩
              have w21 := hC.2.2.1 2 1 v21 (by omega)
              have hz3 := hE.1
              have hz4 := x3.1
              have hE5 : Ext H H1 := ⟨by have := hz_103; omega, fun q h => by
                rw [hfr q (by omega) (by omega) (fun h0 => by rw [heE h0]; have w2 := hC.2.2.1 3 1 ⟨by omega, h0⟩ (by omega); omega), x3.2 q (by omega), hE.2 q h]⟩
              have hltr : ad 6 k < H.size := hQ0.lt (k := 6) (i := k) hk
              have hC5 : QW z (fun q => H.size ≤ q) (adP adk k H3.size (ad 6 k) e6) (cpS st (nC st) (k + 1)) (ghP ghk (ghk.1 1 + 1) cap6) H1 := by
                have h9 := QW.addP (N := H3.size) (b := H3.size) (ra := ad 6 k) (e0 := e6) (cap0 := cap6) (md0 := ghk.1 1 + 1) (st' := cpS st (nC st) (k + 1)) (H1 := H1) hC (fun a i hv _ => hC.lt hv) (Nat.le_trans hA0 hE.1) rfl rfl rfl rfl rfl rfl rfl rfl rfl (by rw [hCp]; exact cp_nP (by omega)) (fun i hi => by rw [hCp] at hi; exact ⟨rfl, by rw [cp_8 (by omega), cp_8 hi], rfl, fun _ _ => rfl⟩) (hQ0.inv.cp (by omega) (by omega))
                  (fun a i hv h1 h2 => by
                    rw [hfr _ (Nat.lt_of_lt_of_le (hC.lt hv) x3.1) (hC.ap hv v21 h1) (fun h => by rw [heE h]; exact hC.ap hv ⟨by omega, h⟩ h2)]
                    exact x3.2 _ (hC.lt hv))
                  (by rw [hCp]; exact j1) (by rw [hCp]; exact j4) (by rw [hCp]; exact ⟨j2, j3⟩)
                  (by
                    rcases j5 with ⟨g1, -, g3, -⟩ | ⟨g1, -⟩
                    · exact Or.inl ⟨g3, by rw [g1]; exact heE g3⟩
                    · exact Or.inr (by rw [g1]; exact x3.1))
                  (by rw [hCp, cp_8 (by omega)]; exact x1.1.kept (hfr _ (by omega) (by omega) (fun h => by rw [heE h]; have := hlt31 h; omega))) (Nat.le_refl _)
                  (by rw [hCp]; exact (hQ0.r hk).ext hE5) (hQ0.aa (k := 6) (i := k) hk)
                  (fun a i hv => by
                    by_cases h6 : a < 6
                    · have w := hC.2.2.1 a i hv h6
                      omega
                    · revert h6
                      revert hv
                      refine Vq.cs (P := fun a i => ¬ a < 6 → ad 6 k ≠ adk a i) (fun g => absurd (by omega) g) (fun g => absurd (by omega) g) (fun i _ g => absurd (by omega) g) (fun i _ _ g => absurd (by omega) g) (fun i _ g => absurd (by omega) g) (fun i _ g => absurd (by omega) g) (fun i hi _ => ?_) a i
                      rw [hCp] at hi
                      rw [ha6 i hi]
                      exact hQ0.ap (k := 6) (i := k) (k' := 6) (i' := i) hk (show i < nP st by omega) (by omega))
                  (fun i hi => Or.inl (hC.lt (k := 6) (i := i) hi))
                  (by omega)
                  (by
                    rcases j5 with ⟨g1, -, g3, -⟩ | ⟨g1, -⟩
                    · rw [g1, heE g3]; have := hlt31 g3; omega
                    · rw [g1]; exact Nat.ne_of_lt (by omega))
                  (by
                    rcases j5 with ⟨g1, -, g3, -⟩ | ⟨g1, -⟩
                    · rw [g1, heE g3]; have w2 := hC.2.2.1 3 1 ⟨by omega, g3⟩ (by omega); omega
                    · rw [g1]; exact Nat.ne_of_lt (by omega))
                rw [hCp] at h9
                exact h9.mono (fun q hq => hq.elim id (fun h => Nat.le_trans hE.1 h))
              have ha5 : adP adk k H3.size (ad 6 k) e6 0 0 = H.size := ha0
              have ha65 : ∀ i, i < k + 1 → adP adk k H3.size (ad 6 k) e6 6 i = ad 6 i := fun i hi => by
                unfold adP
                rw [if_neg (by omega)]
                by_cases g : i = k
                · rw [if_pos ⟨rfl, g⟩, g]
                · rw [if_neg (by omega), if_neg (by omega), ha6 i (by omega)]
              refine lv_pop hx hb dX2_copy_106 rfl ?_
              refine lv_iinc (lv' := [(2, _), (1, _), (0, _)]) hx hb dX2_copy_107 hl (k := 0) rfl (v := nI (k + 1)) (nI_1 k) (by decide) rfl (fun ls hl => ?_)
              refine lv_goto (tgt := 74) hx hb dX2_copy_110 (by decide) ?_
              refine W.cs (cells' := 166 + 2 * (k + 1)) (slots' := 5266 + 37 * (k + 1)) (by omega) (by omega) ?_
              exact ih (k + 1) _ _ _ _ _ (by omega) (by omega) hC5 ha5 ha65 hE5 hS hl
        exact L74 (nP st + 1) 0 _ _ _ _ _ (by omega) (by omega) hC ha0 (fun i hi => by omega) hE hS (by rw [nI_0]; exact hl)
      · skip
        have hk : k < nC st := lp_in hk0 c_41 (by omega)
        have hIc := hQ0.inv.2.2.1 k hk
        have hmk := hQ0.mCi hk
        have hcapk := hQ.cap (i := k + 2) (by omega)
        have hcapk1 : mC st k ≤ gh.2 (k + 2) := hcapk.1
        refine lv_aload_n hx hb dX2_copy_44 rfl (lv_at hl 1 rfl) ?_
        refine gf_X2_18 C hCq rfl dX2_copy_45 ?_
        refine lv_aload_n hx hb dX2_copy_48 rfl (lv_at hl 2 rfl) ?_
        refine gf_X2_18 C hQ.q rfl dX2_copy_49 ?_
        refine lv_iload_n hx hb dX2_copy_52 rfl (lv_at hl 0 rfl) ?_
        refine cv_X2_40 C hQ.lc hS (m_getC z l hQ hk) (Nat.le_of_ble_eq_true rfl) hl.1 (Nat.le_of_ble_eq_true rfl) (by omega) (by omega) dX2_copy_53 (fun r_53 h_53 => ?_)
        subst h_53
        refine va_castE hx hb C.1.2.2.2.1 (C.1.2.2.2.2 _ q174) ((hQ.c hk).recv C.2.1 rfl) dX2_copy_56 ?_
        refine cv_X2_46 C (hQ.c hk) hS (m_X5_copy z l (v := fun j => cN (st 5 (24 * k + j))) (cap := gh.2 (k + 2)) (hQ.c hk) hIc.2.2.1 (hQ.lo hk) (by
    rcases Nat.eq_zero_or_pos (mC st k) with g | g
    · exact Or.inl g
    · exact Or.inr ⟨by omega, hQ.ea (i := k + 2) (by omega) (by omega)⟩) hcapk1 hcapk.2 hmk.1 (fun j hj => by have := (hIc.2.2.2.2 j hj).cl (by omega); omega)) (Nat.le_of_ble_eq_true rfl) hl.1 (Nat.le_of_ble_eq_true rfl) (by omega) (by omega) dX2_copy_59 (fun r_59 H1 locs h_59 hz_59 hS => ?_)
        obtain ⟨rfl, x1, x2, x3⟩ := h_59
        have hC4 := hC.ext x3
        have hS4 := hS
        have hl4 := hC4.lc
        rw [hCn] at hl4
        have hcap4 := hC4.cap (i := 0) (by omega)
        have hcap41 : k ≤ ghk.2 0 := by have := hcap4.1; rw [show lsz (cpS st k 0) 0 = k from hCn] at this; exact this
        obtain ⟨md5, e5, cap5, l5, b5, b6, hL5⟩ := x2
        have hzx : H3.size + 2 ≤ H1.size := l5.lt
        generalize hH4 : H1 = H4 at x1 x3 hC4 hS4 hl4 l5 hL5 hzx hS ⊢
        refine cv_X2_50 C hl4 hS (m_J2_add z l (f := qel z adk (cpS st k 0) 0) hl4 (hC4.aa (k := 2) (i := 0) (show 0 < nC (cpS st k 0) + 2 by omega)) (hC4.eL (i := 0) (by omega)) (fun h => by unfold eA; rw [if_neg (by omega)]; exact hC4.aa (k := 3) (i := 0) ⟨by omega, h⟩) (by
    unfold eA
    split
    · intro h9
      have h8 := hC4.aa (k := 2) (i := 0) (show 0 < nC (cpS st k 0) + 2 by omega)
      rw [h9] at h8
      exact hout h8
    · rename_i g
      exact hC4.ap (k := 2) (i := 0) (k' := 3) (i' := 0) (show 0 < nC (cpS st k 0) + 2 by omega) ⟨by omega, by omega⟩ (by omega)) (by omega) hcap41 hcap4.2 (fun i hi => if_neg (by rw [hCn]; omega)) (fun i hi y hy => by
    rw [QW.el0 (by rw [hCn]; exact hi)] at hy
    cases hy
    exact Or.inl ⟨_, hC4.c (by rw [hCn]; exact hi)⟩) (Or.inl ⟨_, x1⟩)) (Nat.le_of_ble_eq_true rfl) hl.1 (Nat.le_of_ble_eq_true rfl) (by omega) (by omega) dX2_copy_62 (fun r_62 H1 locs h_62 hz_62 hS => ?_)
        have hadd := h_62.2
        have hfr := hadd.fr (fun h => by unfold eA; rw [if_pos h]) (C.2.2.1.S hS4) (C.2.2.1.S hS) hout
        obtain ⟨e6, cap6, j1, j2, j3, j4, j5, -⟩ := hadd
        have v20 : Vq (cpS st k 0) ghk 2 0 := show 0 < nC (cpS st k 0) + 2 by omega
        have hlt20 := hC.lt v20
        have heE : 0 < ghk.2 0 → eA z adk ghk 0 = adk 3 0 := fun h => by unfold eA; rw [if_neg (by omega)]
        have hlt30 : 0 < ghk.2 0 → adk 3 0 < H3.size := fun h => hC.lt (k := 3) (i := 0) ⟨by omega, h⟩
        have hfresh : ∀ q, H3.size ≤ q → q < H4.size → H1[q]? = H4[q]? := fun q h1 h2 => hfr q h2 (by omega) (fun h => by rw [heE h]; have := hlt30 h; omega)
        have hst' : ∀ i, i < k → cpS st (k + 1) 0 1 i = cpS st k 0 1 i ∧ cpS st (k + 1) 0 2 i = cpS st k 0 2 i ∧ cpS st (k + 1) 0 3 i = cpS st k 0 3 i ∧ cpS st (k + 1) 0 6 i = cpS st k 0 6 i ∧ mC (cpS st (k + 1) 0) i = mC (cpS st k 0) i ∧ ∀ j, j < mC (cpS st k 0) i → cpS st (k + 1) 0 5 (24 * i + j) = cpS st k 0 5 (24 * i + j) := fun i hi => ⟨rfl, rfl, rfl, by rw [cp_6 (by omega), cp_6 hi], by rw [cp_m (by omega), cp_m hi], fun j _ => rfl⟩
        have hmk1 : mC (cpS st (k + 1) 0) k = mC st k := cp_m (by omega)
        have hC5 : QW z (fun q => H.size ≤ q) (adC adk k H3.size (H3.size + 1) e5 e6) (cpS st (k + 1) 0) (ghC ghk k md5 (ghk.1 0 + 1) cap5 cap6) H1 := by
          have h9 := QW.addC (N := H3.size) (b := H3.size) (lo := H3.size + 1) (e := e5) (e0 := e6) (cap := cap5) (cap0 := cap6) (md := md5) (md0 := ghk.1 0 + 1) (st' := cpS st (k + 1) 0) (H1 := H1) hC (fun a i hv => hC.lt hv) (Nat.le_trans hA0 hE.1) rfl rfl rfl rfl rfl rfl (by rw [hCn]; exact cp_nC (by omega)) rfl (by rw [hCn]; exact hst') (hQ0.inv.cp (by omega) (by omega))
            (fun a i hv h1 h2 => by
              rw [hfr _ (Nat.lt_of_lt_of_le (hC.lt hv) x3.1) (hC.ap hv v20 h1) (fun h => by rw [heE h]; exact hC.ap hv ⟨by omega, h⟩ h2)]
              exact x3.2 _ (hC.lt hv))
            (by rw [hCn]; exact j1) (by rw [hCn]; exact j4) (by rw [hCn]; exact ⟨j2, j3⟩)
            (by
              rcases j5 with ⟨g1, -, g3, -⟩ | ⟨g1, -⟩
              · exact Or.inl ⟨g3, by rw [g1]; exact heE g3⟩
              · exact Or.inr (by rw [g1]; exact x3.1))
            (by rw [hCn, cp_6 (by omega)]; exact x1.kept (hfresh _ (Nat.le_refl _) (by omega))) (Nat.le_refl _)
            (by rw [hCn, hmk1]; exact l5.kept (hfresh _ (by omega) (by omega))) (by omega)
            (by
              rcases hL5 with g | ⟨g1, g2, g3, g4⟩
              · exact Or.inl g
              · refine Or.inr ⟨g1, by omega, ?_⟩
                rw [hCn, hmk1]
                exact g4.kept (hfresh _ (by omega) g3))
            (by rw [hCn, hmk1]; exact ⟨b5, b6⟩) (by omega)
            (by
              rcases j5 with ⟨g1, -, g3, -⟩ | ⟨g1, -⟩
              · rw [g1, heE g3]; have := hlt30 g3; omega
              · rw [g1]; exact Nat.ne_of_lt (by omega))
            (by
              rcases j5 with ⟨g1, -, g3, -⟩ | ⟨g1, -⟩
              · rw [g1, heE g3]; have := hlt30 g3; omega
              · rw [g1]; exact Nat.ne_of_lt (by omega))
            (fun hp => by
              rcases hL5 with ⟨g, -⟩ | ⟨-, g2, g3, -⟩
              · omega
              · refine ⟨by omega, by omega, ?_⟩
                rcases j5 with ⟨g1, -, g4, -⟩ | ⟨g1, -⟩
                · rw [g1, heE g4]; have := hlt30 g4; omega
                · rw [g1]; exact Nat.ne_of_lt g3)
          rw [hCn] at h9
          exact h9.mono (fun q hq => hq.elim id (fun h => Nat.le_trans hE.1 h))
        have ha5 : adC adk k H3.size (H3.size + 1) e5 e6 0 0 = H.size := ha0
        have hE5 : Ext H H1 := ⟨by have := hz_62; have := x3.1; have := hE.1; omega, fun q h => by
          have w1 := hC.2.2.1 2 0 v20 (by omega)
          have hz3 := hE.1
          have hz4 := x3.1
          rw [hfr q (by omega) (by omega) (fun h0 => by rw [heE h0]; have w2 := hC.2.2.1 3 0 ⟨by omega, h0⟩ (by omega); omega), x3.2 q (by omega), hE.2 q h]⟩
        refine lv_pop hx hb dX2_copy_65 rfl ?_
        refine lv_iinc (lv' := [(2, _), (1, _), (0, _)]) hx hb dX2_copy_66 hl (k := 0) rfl (v := nI (k + 1)) (nI_1 k) (by decide) rfl (fun ls hl => ?_)
        refine lv_goto (tgt := 33) hx hb dX2_copy_69 (by decide) ?_
        refine W.cs (cells' := 4 + 27 * (k + 1)) (slots' := 118 + 858 * (k + 1)) (by omega) (by omega) ?_
        exact ih (k + 1) _ _ _ _ _ (by omega) (by omega) hC5 ha5 hE5 hS hl
  exact L33 (nC st + 1) 0 _ _ _ _ _ (by omega) (by omega) hQc rfl hE3 hS (by rw [nI_0]; exact hl)

