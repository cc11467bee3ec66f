set_option maxRecDepth 100000
theorem sChk_spec {a b : Int32} (ha : Bd a 108) (hb : Bd b 108) (h1 : sDx a b = 0 ∨ sDy a b = 0) (h2 : ab (sDx a b + sDy a b) ≤ 4) : sFar a b ≤ 4 ∧ a + nI (sFar a b) * sBy a b = b ∧ (sBy a b = 0 ↔ sFar a b = 0) ∧ ab (sDx a b + sDy a b) = ab (sDx a b) + ab (sDy a b) ∧ ∀ k, 0 < k → k < sFar a b → ¬ a + nI k * sBy a b = b ∧ Bd (a + nI k * sBy a b) 108 := by
  obtain ⟨x, hx, rfl⟩ := ha
  obtain ⟨y, hy, rfl⟩ := hb
  have h := List.all_eq_true.mp (List.all_eq_true.mp sChk_all x (List.mem_range.mpr hx)) y (List.mem_range.mpr hy)
  unfold sChk at h
  rw [Bool.or_eq_true] at h
  rcases h with h | h
  · exfalso
    rw [Bool.not_eq_true', Bool.and_eq_false_iff] at h
    rcases h with h | h
    · rw [Bool.or_eq_false_iff] at h
      rcases h1 with g | g
      · exact absurd g (by simpa using h.1)
      · exact absurd g (by simpa using h.2)
    · exact absurd h2 (by simpa using h)
  · simp only [Bool.and_eq_true, decide_eq_true_eq, beq_iff_eq, List.all_eq_true, List.mem_range] at h
    obtain ⟨g1, g2, g3, g4, g5⟩ := h
    refine ⟨g1, g2, ?_, g4, fun k hk0 hk1 => ?_⟩
    · constructor
      · intro e
        simpa [e] using g3
      · intro e
        simpa [e] using g3
    · have g6 := g5 k (by omega)
      rw [decide_eq_true hk0, decide_eq_true hk1] at g6
      simp only [Bool.and_self, Bool.not_true, Bool.false_or, Bool.and_eq_true, Bool.not_eq_true', beq_eq_false_iff_ne, decide_eq_true_eq] at g6
      exact ⟨g6.1, bd_of_toNat g6.2 (by omega)⟩
theorem anyTo_of {f : Nat → Bool} {k n : Nat} (h : f k = true) (hk : k < n) : anyTo f n = true := by
  induction n with
  | zero => omega
  | succ n ih =>
    show (anyTo f n || f n) = true
    rcases Nat.lt_or_ge k n with g | g
    · rw [ih g]; rfl
    · rw [show k = n by omega] at h
      rw [h, Bool.or_true]
theorem Bd.ne {x : Int32} {n : Nat} (h : Bd x n) (hn : n ≤ 2 ^ 30) : ¬ x = -1 := by
  obtain ⟨j, hj, rfl⟩ := h
  intro e
  have h1 := congrArg Int32.toInt e
  rw [nI_toInt (by omega)] at h1
  have h2 : (-1 : Int32).toInt = -1 := by decide
  omega
theorem frB_bd {st : St} {x : Int32} (h : Bd x 108) : frB st x = (st 0 (cN x) == 0) := by
  unfold frB
  rw [show (x == -1) = false from by simpa using h.ne (by omega)]
  rfl
theorem sLim_le (t : Int32) : sLim t ≤ 4 := by
  unfold sLim
  split <;> decide
theorem mulS (k : Nat) (b : Int32) : nI (k + 1) * b = nI k * b + b := by
  rw [← nI_1]
  grind

set_option maxHeartbeats 4000000 in
theorem m_X2_sees (z : Zt) (l : Launch) {H : Heap} {F : Nat → Prop} {ad : Nat → Nat → Nat} {st : St} {gh : Gh} (hQ : QW z F ad st gh H) {p c : Nat} (hp : p < nP st) (hc : c < nC st) : Ri z l yX2_sees cX2_sees 7 .boolean [.ref (ad 0 0), .ref (ad 5 p), .ref (ad 4 c)] H 2 (fun r => r = bI (seB st p c)) := by
  refine en_Ri (own := RX2) (by decide) rfl (Nat.le_of_ble_eq_true rfl) ?_
  intro ag pp ev sS mM below meth cd ls Q C hS hl hR
  have hx := C.1.1
  have hb := C.1.2.1
  have hl : lv_has ls 7 [(0, .ref (ad 0 0)), (1, .ref (ad 5 p)), (2, .ref (ad 4 c))] := hl
  have hbc := (hQ.inv.2.2.1 c hc).1
  have hbp := (hQ.inv.2.2.2.1 p hp).1
  refine lv_aload_n hx hb dX2_sees_0 rfl (lv_at hl 2 rfl) ?_
  refine cv_X2_59 C (hQ.c hc) hS (m_X5_isThere z l (hQ.c hc)) (Nat.le_of_ble_eq_true rfl) hl.1 (Nat.le_of_ble_eq_true rfl) (by omega) (by omega) dX2_sees_1 (fun r_1 h_1 => ?_)
  subst h_1
  refine lv_if_ne (tgt := 9) hx hb dX2_sees_4 (by decide) (fun c_4 => ?_) (fun c_4 => ?_)
  · skip
    have hpe := bI_t c_4
    refine lv_aload_n hx hb dX2_sees_9 rfl (lv_at hl 2 rfl) ?_
    refine gf_X2_63 C (hQ.c hc) rfl dX2_sees_10 ?_
    refine lv_bipush (v := 12) hx hb dX2_sees_13 (by decide) ?_
    refine lv_irem hx hb dX2_sees_15 (by decide) ?_
    refine lv_aload_n hx hb dX2_sees_16 rfl (lv_at hl 1 rfl) ?_
    refine gf_X2_66 C (hQ.p hp) rfl dX2_sees_17 ?_
    refine lv_bipush (v := 12) hx hb dX2_sees_20 (by decide) ?_
    refine lv_irem hx hb dX2_sees_22 (by decide) ?_
    refine lv_isub hx hb dX2_sees_23 ?_
    refine lv_seti (y := sDx (st 7 p) (st 1 c)) rfl ?_
    refine lv_istore_n (lv' := [(3, _), (0, _), (1, _), (2, _)]) hx hb dX2_sees_24 rfl hl (by decide) rfl (fun ls hl => ?_)
    refine lv_aload_n hx hb dX2_sees_25 rfl (lv_at hl 3 rfl) ?_
    refine gf_X2_63 C (hQ.c hc) rfl dX2_sees_26 ?_
    refine lv_bipush (v := 12) hx hb dX2_sees_29 (by decide) ?_
    refine lv_idiv hx hb dX2_sees_31 (by decide) ?_
    refine lv_aload_n hx hb dX2_sees_32 rfl (lv_at hl 2 rfl) ?_
    refine gf_X2_66 C (hQ.p hp) rfl dX2_sees_33 ?_
    refine lv_bipush (v := 12) hx hb dX2_sees_36 (by decide) ?_
    refine lv_idiv hx hb dX2_sees_38 (by decide) ?_
    refine lv_isub hx hb dX2_sees_39 ?_
    refine lv_seti (y := sDy (st 7 p) (st 1 c)) rfl ?_
    refine lv_istore (lv' := [(4, _), (3, _), (0, _), (1, _), (2, _)]) hx hb dX2_sees_40 hl (by decide) rfl (fun ls hl => ?_)
    refine lv_iload_n hx hb dX2_sees_42 rfl (lv_at hl 1 rfl) ?_
    refine lv_if_eq (tgt := 51) hx hb dX2_sees_43 (by decide) (fun c_43 => ?_) (fun c_43 => ?_)
    · skip
      have hcol : sDx (st 7 p) (st 1 c) = 0 ∨ sDy (st 7 p) (st 1 c) = 0 := Or.inl c_43
      refine lv_iload_n hx hb dX2_sees_51 rfl (lv_at hl 1 rfl) ?_
      refine lv_iload hx hb dX2_sees_52 (lv_at hl 0 rfl) ?_
      refine lv_iadd hx hb dX2_sees_54 ?_
      refine g_abs C (C.1.2.2.2.2 _ q233) (Nat.le_of_ble_eq_true rfl) hl.1 (Nat.le_of_ble_eq_true rfl) (by omega) (by omega) dX2_sees_55 ?_
      refine lv_aload_n hx hb dX2_sees_58 rfl (lv_at hl 4 rfl) ?_
      refine cv_X2_115 C (hQ.c hc) hS (m_X5_isSeenFrom z l (hQ.c hc)) (Nat.le_of_ble_eq_true rfl) hl.1 (Nat.le_of_ble_eq_true rfl) (by omega) (by omega) dX2_sees_59 (fun r_59 h_59 => ?_)
      subst h_59
      refine lv_seti (y := sLim (st 3 c)) rfl ?_
      refine lv_icmp_le (tgt := 67) hx hb dX2_sees_62 (by decide) (fun c_62 => ?_) (fun c_62 => ?_)
      · skip
        have hF := sChk_spec hbp hbc hcol (Int32.le_trans c_62 (sLim_le _))
        have hse : seB st p c = sWay (st 0) (st 7 p) (st 1 c) := by
          have e0 : (sDx (st 7 p) (st 1 c) == 0 || sDy (st 7 p) (st 1 c) == 0) = true := by simpa using hcol
          have e1 : decide (sLim (st 3 c) < ab (sDx (st 7 p) (st 1 c) + sDy (st 7 p) (st 1 c))) = false := decide_eq_false (Int32.not_lt.mpr c_62)
          unfold seB
          rw [hpe, e0, e1]
          rfl
        refine lv_iload_n hx hb dX2_sees_67 rfl (lv_at hl 1 rfl) ?_
        refine cv_X2_118 C hS (m_J17_signum z l) (Nat.le_of_ble_eq_true rfl) hl.1 (Nat.le_of_ble_eq_true rfl) (by omega) (by omega) dX2_sees_68 (fun r_68 h_68 => ?_)
        subst h_68
        refine lv_bipush (v := 12) hx hb dX2_sees_71 (by decide) ?_
        refine lv_iload hx hb dX2_sees_73 (lv_at hl 0 rfl) ?_
        refine cv_X2_118 C hS (m_J17_signum z l) (Nat.le_of_ble_eq_true rfl) hl.1 (Nat.le_of_ble_eq_true rfl) (by omega) (by omega) dX2_sees_75 (fun r_75 h_75 => ?_)
        subst h_75
        refine lv_imul hx hb dX2_sees_78 ?_
        refine lv_iadd hx hb dX2_sees_79 ?_
        refine lv_seti (y := sBy (st 7 p) (st 1 c)) rfl ?_
        refine lv_istore (lv' := [(5, _), (4, _), (3, _), (0, _), (1, _), (2, _)]) hx hb dX2_sees_80 hl (by decide) rfl (fun ls hl => ?_)
        refine lv_aload_n hx hb dX2_sees_82 rfl (lv_at hl 4 rfl) ?_
        refine gf_X2_66 C (hQ.p hp) rfl dX2_sees_83 ?_
        refine lv_iload hx hb dX2_sees_86 (lv_at hl 0 rfl) ?_
        refine lv_iadd hx hb dX2_sees_88 ?_
        refine lv_seti (y := st 7 p + nI (0 + 1) * sBy (st 7 p) (st 1 c)) (by rw [mulS, nI_0]; grind) ?_
        refine lv_istore (lv' := [(6, _), (5, _), (4, _), (3, _), (0, _), (1, _), (2, _)]) hx hb dX2_sees_89 hl (by decide) rfl (fun ls hl => ?_)
        have L91 : ∀ (k9 : Nat) (k : Nat) (ls : Array Slot), (k + 1 ≤ sFar (st 7 p) (st 1 c) ∨ (sFar (st 7 p) (st 1 c) = 0 ∧ k = 0)) → sFar (st 7 p) (st 1 c) + 2 ≤ k + 1 + k9 → anyTo (fun k => !(st 0 (cN (st 7 p + nI (k + 1) * sBy (st 7 p) (st 1 c))) == 0)) k = false → lv_has ls 7 [(6, .int (st 7 p + nI (k + 1) * sBy (st 7 p) (st 1 c))), (5, .int (sBy (st 7 p) (st 1 c))), (0, .ref (ad 0 0)), (1, .ref (ad 5 p)), (2, .ref (ad 4 c))] → W pp l ev (RL 2 0 0) sS mM ag below meth cd H [] 0 0 Q (F0 mM 91 ls []) := by
          intro k9
          induction k9 with
          | zero =>
            intro k ls hk0 hk1 hany hl
            omega
          | succ k9 ih =>
            intro k ls hk0 hk1 hany hl
            refine lv_iload hx hb dX2_sees_91 (lv_at hl 0 rfl) ?_
            refine lv_aload_n hx hb dX2_sees_93 rfl (lv_at hl 4 rfl) ?_
            refine gf_X2_63 C (hQ.c hc) rfl dX2_sees_94 ?_
            refine lv_icmp_eq (tgt := 126) hx hb dX2_sees_97 (by decide) (fun c_97 => ?_) (fun c_97 => ?_)
            · skip
              have hk2 : ¬ k + 1 < sFar (st 7 p) (st 1 c) := fun h => (hF.2.2.2.2 (k + 1) (by omega) h).1 c_97
              refine lv_iconst (v := 1) hx hb dX2_sees_126 (by decide) ?_
              exact hR _ _ _ dX2_sees_127 rfl (by
    rw [hse]
    unfold sWay
    rw [show sFar (st 7 p) (st 1 c) - 1 = k by omega, hany]
    rfl)
            · skip
              have hk2 : k + 1 < sFar (st 7 p) (st 1 c) := by
                rcases hk0 with h | ⟨h, h0⟩
                · rcases Nat.lt_or_ge (k + 1) (sFar (st 7 p) (st 1 c)) with g | g
                  · exact g
                  · exact absurd (by rw [show k + 1 = sFar (st 7 p) (st 1 c) by omega]; exact hF.2.1) c_97
                · exfalso
                  have e1 := hF.2.2.1.mpr h
                  have e2 := hF.2.1
                  rw [e1] at c_97 e2
                  exact c_97 (by rw [show nI (k + 1) * 0 = 0 from by grind]; rw [show nI (sFar (st 7 p) (st 1 c)) * 0 = 0 from by grind] at e2; exact e2)
              refine lv_iload hx hb dX2_sees_100 (lv_at hl 1 rfl) ?_
              refine lv_if_eq (tgt := 126) hx hb dX2_sees_102 (by decide) (fun c_102 => ?_) (fun c_102 => ?_)
              · skip
                exact absurd (hF.2.2.1.mp c_102) (by omega)
              · skip
                refine lv_aload_n hx hb dX2_sees_105 rfl (lv_at hl 2 rfl) ?_
                refine lv_iload hx hb dX2_sees_106 (lv_at hl 0 rfl) ?_
                refine cv_X2_121 C hQ.q hS (m_X2_isFree z l hQ (Or.inr (hF.2.2.2.2 (k + 1) (by omega) hk2).2)) (Nat.le_of_ble_eq_true rfl) hl.1 (Nat.le_of_ble_eq_true rfl) (by omega) (by omega) dX2_sees_108 (fun r_108 h_108 => ?_)
                subst h_108
                refine lv_if_ne (tgt := 116) hx hb dX2_sees_111 (by decide) (fun c_111 => ?_) (fun c_111 => ?_)
                · skip
                  have hfr := bI_t c_111
                  refine lv_iload hx hb dX2_sees_116 (lv_at hl 0 rfl) ?_
                  refine lv_iload hx hb dX2_sees_118 (lv_at hl 1 rfl) ?_
                  refine lv_iadd hx hb dX2_sees_120 ?_
                  refine lv_seti (y := st 7 p + nI (k + 1 + 1) * sBy (st 7 p) (st 1 c)) (by rw [mulS (k + 1)]; grind) ?_
                  refine lv_istore (lv' := [(6, _), (5, _), (0, _), (1, _), (2, _)]) hx hb dX2_sees_121 hl (by decide) rfl (fun ls hl => ?_)
                  refine lv_goto (tgt := 91) hx hb dX2_sees_123 (by decide) ?_
                  exact ih (k + 1) _ (Or.inl (by omega)) (by omega) (by show (_ || (!(st 0 (cN (st 7 p + nI (k + 1) * sBy (st 7 p) (st 1 c))) == 0))) = false; rw [hany]; rw [frB_bd (hF.2.2.2.2 (k + 1) (by omega) hk2).2] at hfr; rw [hfr]; rfl) (lv_sub hl [0, 1, 2, 3, 4] rfl)
                · skip
                  have hfr := bI_f c_111
                  refine lv_iconst (v := 0) hx hb dX2_sees_114 (by decide) ?_
                  exact hR _ _ _ dX2_sees_115 rfl (by
    rw [frB_bd (hF.2.2.2.2 (k + 1) (by omega) hk2).2] at hfr
    rw [hse]
    unfold sWay
    rw [anyTo_of (k := k) (by show (!_) = true; rw [hfr]; rfl) (by omega)]
    rfl)
        exact L91 (sFar (st 7 p) (st 1 c) + 2) 0 _ (by omega) (by omega) rfl (lv_sub hl [0, 1, 4, 5, 6] rfl)
      · skip
        refine lv_iconst (v := 0) hx hb dX2_sees_65 (by decide) ?_
        exact hR _ _ _ dX2_sees_66 rfl (by
    first
    | (have e1 : (sDx (st 7 p) (st 1 c) == 0 || sDy (st 7 p) (st 1 c) == 0) = false := by simpa using hcol
       unfold seB; rw [e1]; simp [bI]; done)
    | (have e1 : decide (sLim (st 3 c) < ab (sDx (st 7 p) (st 1 c) + sDy (st 7 p) (st 1 c))) = true := decide_eq_true (Int32.not_le.mp c_62)
       unfold seB; rw [e1]; simp [bI]; done))
    · skip
      refine lv_iload hx hb dX2_sees_46 (lv_at hl 0 rfl) ?_
      refine lv_if_ne (tgt := 65) hx hb dX2_sees_48 (by decide) (fun c_48 => ?_) (fun c_48 => ?_)
      · skip
        have hcol : ¬ (sDx (st 7 p) (st 1 c) = 0 ∨ sDy (st 7 p) (st 1 c) = 0) := fun h => h.elim c_43 c_48
        refine lv_iconst (v := 0) hx hb dX2_sees_65 (by decide) ?_
        exact hR _ _ _ dX2_sees_66 rfl (by
    first
    | (have e1 : (sDx (st 7 p) (st 1 c) == 0 || sDy (st 7 p) (st 1 c) == 0) = false := by simpa using hcol
       unfold seB; rw [e1]; simp [bI]; done)
    | (have e1 : decide (sLim (st 3 c) < ab (sDx (st 7 p) (st 1 c) + sDy (st 7 p) (st 1 c))) = true := decide_eq_true (Int32.not_le.mp c_62)
       unfold seB; rw [e1]; simp [bI]; done))
      · skip
        have hcol : sDx (st 7 p) (st 1 c) = 0 ∨ sDy (st 7 p) (st 1 c) = 0 := Or.inr c_48
        refine lv_iload_n hx hb dX2_sees_51 rfl (lv_at hl 1 rfl) ?_
        refine lv_iload hx hb dX2_sees_52 (lv_at hl 0 rfl) ?_
        refine lv_iadd hx hb dX2_sees_54 ?_
        refine g_abs C (C.1.2.2.2.2 _ q233) (Nat.le_of_ble_eq_true rfl) hl.1 (Nat.le_of_ble_eq_true rfl) (by omega) (by omega) dX2_sees_55 ?_
        refine lv_aload_n hx hb dX2_sees_58 rfl (lv_at hl 4 rfl) ?_
        refine cv_X2_115 C (hQ.c hc) hS (m_X5_isSeenFrom z l (hQ.c hc)) (Nat.le_of_ble_eq_true rfl) hl.1 (Nat.le_of_ble_eq_true rfl) (by omega) (by omega) dX2_sees_59 (fun r_59 h_59 => ?_)
        subst h_59
        refine lv_seti (y := sLim (st 3 c)) rfl ?_
        refine lv_icmp_le (tgt := 67) hx hb dX2_sees_62 (by decide) (fun c_62 => ?_) (fun c_62 => ?_)
        · skip
          have hF := sChk_spec hbp hbc hcol (Int32.le_trans c_62 (sLim_le _))
          have hse : seB st p c = sWay (st 0) (st 7 p) (st 1 c) := by
            have e0 : (sDx (st 7 p) (st 1 c) == 0 || sDy (st 7 p) (st 1 c) == 0) = true := by simpa using hcol
            have e1 : decide (sLim (st 3 c) < ab (sDx (st 7 p) (st 1 c) + sDy (st 7 p) (st 1 c))) = false := decide_eq_false (Int32.not_lt.mpr c_62)
            unfold seB
            rw [hpe, e0, e1]
            rfl
          refine lv_iload_n hx hb dX2_sees_67 rfl (lv_at hl 1 rfl) ?_
          refine cv_X2_118 C hS (m_J17_signum z l) (Nat.le_of_ble_eq_true rfl) hl.1 (Nat.le_of_ble_eq_true rfl) (by omega) (by omega) dX2_sees_68 (fun r_68 h_68 => ?_)
          subst h_68
          refine lv_bipush (v := 12) hx hb dX2_sees_71 (by decide) ?_
          refine lv_iload hx hb dX2_sees_73 (lv_at hl 0 rfl) ?_
          refine cv_X2_118 C hS (m_J17_signum z l) (Nat.le_of_ble_eq_true rfl) hl.1 (Nat.le_of_ble_eq_true rfl) (by omega) (by omega) dX2_sees_75 (fun r_75 h_75 => ?_)
          subst h_75
          refine lv_imul hx hb dX2_sees_78 ?_
          refine lv_iadd hx hb dX2_sees_79 ?_
          refine lv_seti (y := sBy (st 7 p) (st 1 c)) rfl ?_
          refine lv_istore (lv' := [(5, _), (4, _), (3, _), (0, _), (1, _), (2, _)]) hx hb dX2_sees_80 hl (by decide) rfl (fun ls hl => ?_)
          refine lv_aload_n hx hb dX2_sees_82 rfl (lv_at hl 4 rfl) ?_
          refine gf_X2_66 C (hQ.p hp) rfl dX2_sees_83 ?_
          refine lv_iload hx hb dX2_sees_86 (lv_at hl 0 rfl) ?_
          refine lv_iadd hx hb dX2_sees_88 ?_
          refine lv_seti (y := st 7 p + nI (0 + 1) * sBy (st 7 p) (st 1 c)) (by rw [mulS, nI_0]; grind) ?_
          refine lv_istore (lv' := [(6, _), (5, _), (4, _), (3, _), (0, _), (1, _), (2, _)]) hx hb dX2_sees_89 hl (by decide) rfl (fun ls hl => ?_)
          have L91 : ∀ (k9 : Nat) (k : Nat) (ls : Array Slot), (k + 1 ≤ sFar (st 7 p) (st 1 c) ∨ (sFar (st 7 p) (st 1 c) = 0 ∧ k = 0)) → sFar (st 7 p) (st 1 c) + 2 ≤ k + 1 + k9 → anyTo (fun k => !(st 0 (cN (st 7 p + nI (k + 1) * sBy (st 7 p) (st 1 c))) == 0)) k = false → lv_has ls 7 [(6, .int (st 7 p + nI (k + 1) * sBy (st 7 p) (st 1 c))), (5, .int (sBy (st 7 p) (st 1 c))), (0, .ref (ad 0 0)), (1, .ref (ad 5 p)), (2, .ref (ad 4 c))] → W pp l ev (RL 2 0 0) sS mM ag below meth cd H [] 0 0 Q (F0 mM 91 ls []) := by
            intro k9
            induction k9 with
            | zero =>
              intro k ls hk0 hk1 hany hl
              omega
            | succ k9 ih =>
              intro k ls hk0 hk1 hany hl
              refine lv_iload hx hb dX2_sees_91 (lv_at hl 0 rfl) ?_
              refine lv_aload_n hx hb dX2_sees_93 rfl (lv_at hl 4 rfl) ?_
              refine gf_X2_63 C (hQ.c hc) rfl dX2_sees_94 ?_
              refine lv_icmp_eq (tgt := 126) hx hb dX2_sees_97 (by decide) (fun c_97 => ?_) (fun c_97 => ?_)
              · skip
                have hk2 : ¬ k + 1 < sFar (st 7 p) (st 1 c) := fun h => (hF.2.2.2.2 (k + 1) (by omega) h).1 c_97
                refine lv_iconst (v := 1) hx hb dX2_sees_126 (by decide) ?_
                exact hR _ _ _ dX2_sees_127 rfl (by
    rw [hse]
    unfold sWay
    rw [show sFar (st 7 p) (st 1 c) - 1 = k by omega, hany]
    rfl)
              · skip
                have hk2 : k + 1 < sFar (st 7 p) (st 1 c) := by
                  rcases hk0 with h | ⟨h, h0⟩
                  · rcases Nat.lt_or_ge (k + 1) (sFar (st 7 p) (st 1 c)) with g | g
                    · exact g
                    · exact absurd (by rw [show k + 1 = sFar (st 7 p) (st 1 c) by omega]; exact hF.2.1) c_97
                  · exfalso
                    have e1 := hF.2.2.1.mpr h
                    have e2 := hF.2.1
                    rw [e1] at c_97 e2
                    exact c_97 (by rw [show nI (k + 1) * 0 = 0 from by grind]; rw [show nI (sFar (st 7 p) (st 1 c)) * 0 = 0 from by grind] at e2; exact e2)
                refine lv_iload hx hb dX2_sees_100 (lv_at hl 1 rfl) ?_
                refine lv_if_eq (tgt := 126) hx hb dX2_sees_102 (by decide) (fun c_102 => ?_) (fun c_102 => ?_)
                · skip
                  exact absurd (hF.2.2.1.mp c_102) (by omega)
                · skip
                  refine lv_aload_n hx hb dX2_sees_105 rfl (lv_at hl 2 rfl) ?_
                  refine lv_iload hx hb dX2_sees_106 (lv_at hl 0 rfl) ?_
                  refine cv_X2_121 C hQ.q hS (m_X2_isFree z l hQ (Or.inr (hF.2.2.2.2 (k + 1) (by omega) hk2).2)) (Nat.le_of_ble_eq_true rfl) hl.1 (Nat.le_of_ble_eq_true rfl) (by omega) (by omega) dX2_sees_108 (fun r_108 h_108 => ?_)
                  subst h_108
                  refine lv_if_ne (tgt := 116) hx hb dX2_sees_111 (by decide) (fun c_111 => ?_) (fun c_111 => ?_)
                  · skip
                    have hfr := bI_t c_111
                    refine lv_iload hx hb dX2_sees_116 (lv_at hl 0 rfl) ?_
                    refine lv_iload hx hb dX2_sees_118 (lv_at hl 1 rfl) ?_
                    refine lv_iadd hx hb dX2_sees_120 ?_
                    refine lv_seti (y := st 7 p + nI (k + 1 + 1) * sBy (st 7 p) (st 1 c)) (by rw [mulS (k + 1)]; grind) ?_
                    refine lv_istore (lv' := [(6, _), (5, _), (0, _), (1, _), (2, _)]) hx hb dX2_sees_121 hl (by decide) rfl (fun ls hl => ?_)
                    refine lv_goto (tgt := 91) hx hb dX2_sees_123 (by decide) ?_
                    exact ih (k + 1) _ (Or.inl (by omega)) (by omega) (by show (_ || (!(st 0 (cN (st 7 p + nI (k + 1) * sBy (st 7 p) (st 1 c))) == 0))) = false; rw [hany]; rw [frB_bd (hF.2.2.2.2 (k + 1) (by omega) hk2).2] at hfr; rw [hfr]; rfl) (lv_sub hl [0, 1, 2, 3, 4] rfl)
                  · skip
                    have hfr := bI_f c_111
                    refine lv_iconst (v := 0) hx hb dX2_sees_114 (by decide) ?_
                    exact hR _ _ _ dX2_sees_115 rfl (by
    rw [frB_bd (hF.2.2.2.2 (k + 1) (by omega) hk2).2] at hfr
    rw [hse]
    unfold sWay
    rw [anyTo_of (k := k) (by show (!_) = true; rw [hfr]; rfl) (by omega)]
    rfl)
          exact L91 (sFar (st 7 p) (st 1 c) + 2) 0 _ (by omega) (by omega) rfl (lv_sub hl [0, 1, 4, 5, 6] rfl)
        · skip
          refine lv_iconst (v := 0) hx hb dX2_sees_65 (by decide) ?_
          exact hR _ _ _ dX2_sees_66 rfl (by
    first
    | (have e1 : (sDx (st 7 p) (st 1 c) == 0 || sDy (st 7 p) (st 1 c) == 0) = false := by simpa using hcol
       unfold seB; rw [e1]; simp [bI]; done)
    | (have e1 : decide (sLim (st 3 c) < ab (sDx (st 7 p) (st 1 c) + sDy (st 7 p) (st 1 c))) = true := decide_eq_true (Int32.not_le.mp c_62)
       unfold seB; rw [e1]; simp [bI]; done))
  · skip
    have hpe := bI_f c_4
    refine lv_iconst (v := 0) hx hb dX2_sees_7 (by decide) ?_
    exact hR _ _ _ dX2_sees_8 rfl (by unfold seB; rw [hpe]; rfl)

set_option maxHeartbeats 4000000 in
theorem m_X2_seenBy (z : Zt) (l : Launch) {H : Heap} {F : Nat → Prop} {ad : Nat → Nat → Nat} {st : St} {gh : Gh} (hQ : QW z F ad st gh H) {c : Nat} (hc : c < nC st) : Ri z l yX2_seenBy cX2_seenBy 4 .int [.ref (ad 0 0), .ref (ad 4 c)] H 4 (fun r => r = sumTo (fun p => bI (seB st p c)) (nP st)) := by
  refine en_Ri (own := RX2) (by decide) rfl (Nat.le_of_ble_eq_true rfl) ?_
  intro ag pp ev sS mM below meth cd ls Q C hS hl hR
  have hx := C.1.1
  have hb := C.1.2.1
  have hl : lv_has ls 4 [(0, .ref (ad 0 0)), (1, .ref (ad 4 c))] := hl
  refine lv_iconst (v := 0) hx hb dX2_seenBy_0 (by decide) ?_
  refine lv_istore_n (lv' := [(2, _), (0, _), (1, _)]) hx hb dX2_seenBy_1 rfl hl (by decide) rfl (fun ls hl => ?_)
  refine lv_iconst (v := 0) hx hb dX2_seenBy_2 (by decide) ?_
  refine lv_istore_n (lv' := [(3, _), (2, _), (0, _), (1, _)]) hx hb dX2_seenBy_3 rfl hl (by decide) rfl (fun ls hl => ?_)
  have L4 : ∀ (k9 : Nat) (k : Nat) (ls : Array Slot), k ≤ nP st → nP st + 1 ≤ k + k9 → lv_has ls 4 [(3, .int (nI k)), (2, .int (sumTo (fun p => bI (seB st p c)) k)), (0, .ref (ad 0 0)), (1, .ref (ad 4 c))] → W pp l ev (RL 4 0 0) sS mM ag below meth cd H [] 0 0 Q (F0 mM 4 ls []) := by
    intro k9
    induction k9 with
    | zero =>
      intro k ls hk0 hk1 hl
      omega
    | succ k9 ih =>
      intro k ls hk0 hk1 hl
      refine lv_iload_n hx hb dX2_seenBy_4 rfl (lv_at hl 0 rfl) ?_
      refine lv_aload_n hx hb dX2_seenBy_5 rfl (lv_at hl 2 rfl) ?_
      refine gf_X2_22 C hQ.q rfl dX2_seenBy_6 ?_
      refine cv_X2_36 C hQ.lp hS (m_J2_size z l hQ.lp) (Nat.le_of_ble_eq_true rfl) hl.1 (Nat.le_of_ble_eq_true rfl) (by omega) (by omega) dX2_seenBy_9 (fun r_9 h_9 => ?_)
      subst h_9
      refine lv_icmp_ge (tgt := 48) hx hb dX2_seenBy_12 (by decide) (fun c_12 => ?_) (fun c_12 => ?_)
      · skip
        have hke : k = nP st := lp_end hk0 c_12 (by have := hQ.nPi; omega)
        refine lv_iload_n hx hb dX2_seenBy_48 rfl (lv_at hl 1 rfl) ?_
        exact hR _ _ _ dX2_seenBy_49 rfl (by rw [hke])
      · skip
        have hk : k < nP st := lp_in hk0 c_12 (by have := hQ.nPi; omega)
        refine lv_iload_n hx hb dX2_seenBy_15 rfl (lv_at hl 1 rfl) ?_
        refine lv_aload_n hx hb dX2_seenBy_16 rfl (lv_at hl 2 rfl) ?_
        refine lv_aload_n hx hb dX2_seenBy_17 rfl (lv_at hl 2 rfl) ?_
        refine gf_X2_22 C hQ.q rfl dX2_seenBy_18 ?_
        refine lv_iload_n hx hb dX2_seenBy_21 rfl (lv_at hl 0 rfl) ?_
        refine cv_X2_40 C hQ.lp hS (m_getP z l hQ hk) (Nat.le_of_ble_eq_true rfl) hl.1 (Nat.le_of_ble_eq_true rfl) (by omega) (by omega) dX2_seenBy_22 (fun r_22 h_22 => ?_)
        subst h_22
        refine va_castE hx hb C.1.2.2.2.1 (C.1.2.2.2.2 _ q228) ((hQ.p hk).recv C.2.1 rfl) dX2_seenBy_25 ?_
        refine lv_aload_n hx hb dX2_seenBy_28 rfl (lv_at hl 3 rfl) ?_
        refine cv_X2_124 C hQ.q hS (m_X2_sees z l hQ hk hc) (Nat.le_of_ble_eq_true rfl) hl.1 (Nat.le_of_ble_eq_true rfl) (by omega) (by omega) dX2_seenBy_29 (fun r_29 h_29 => ?_)
        subst h_29
        refine lv_if_eq (tgt := 39) hx hb dX2_seenBy_32 (by decide) (fun c_32 => ?_) (fun c_32 => ?_)
        · skip
          have hv := bI_f c_32
          refine lv_iconst (v := 0) hx hb dX2_seenBy_39 (by decide) ?_
          refine lv_iadd hx hb dX2_seenBy_40 ?_
          refine lv_seti (y := sumTo (fun p => bI (seB st p c)) (k + 1)) (by show _ = _ + bI (seB st k c); rw [hv]; rfl) ?_
          refine lv_istore_n (lv' := [(2, _), (3, _), (0, _), (1, _)]) hx hb dX2_seenBy_41 rfl hl (by decide) rfl (fun ls hl => ?_)
          refine lv_iinc (lv' := [(3, _), (2, _), (0, _), (1, _)]) hx hb dX2_seenBy_42 hl (k := 1) rfl (v := nI (k + 1)) (nI_1 k) (by decide) rfl (fun ls hl => ?_)
          refine lv_goto (tgt := 4) hx hb dX2_seenBy_45 (by decide) ?_
          exact ih (k + 1) _ (by omega) (by omega) hl
        · skip
          have hv := bI_t c_32
          refine lv_iconst (v := 1) hx hb dX2_seenBy_35 (by decide) ?_
          refine lv_goto (tgt := 40) hx hb dX2_seenBy_36 (by decide) ?_
          refine lv_iadd hx hb dX2_seenBy_40 ?_
          refine lv_seti (y := sumTo (fun p => bI (seB st p c)) (k + 1)) (by show _ = _ + bI (seB st k c); rw [hv]; rfl) ?_
          refine lv_istore_n (lv' := [(2, _), (3, _), (0, _), (1, _)]) hx hb dX2_seenBy_41 rfl hl (by decide) rfl (fun ls hl => ?_)
          refine lv_iinc (lv' := [(3, _), (2, _), (0, _), (1, _)]) hx hb dX2_seenBy_42 hl (k := 1) rfl (v := nI (k + 1)) (nI_1 k) (by decide) rfl (fun ls hl => ?_)
          refine lv_goto (tgt := 4) hx hb dX2_seenBy_45 (by decide) ?_
          exact ih (k + 1) _ (by omega) (by omega) hl
  exact L4 (nP st + 1) 0 _ (by omega) (by omega) (by rw [nI_0]; exact hl)

