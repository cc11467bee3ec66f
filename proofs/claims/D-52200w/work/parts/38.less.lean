set_option maxRecDepth 100000
/-! what shuts the quarter off: rows of Nat -/
def cst (st : St) (k : Nat) : Nat := if st 0 k == 0 then 1 else 0
/-- the neighbour number j of a cell, also by corners (and the cell itself) -/
def nbj (k j : Nat) : Option Nat := if 1 ≤ k % 12 + j % 3 ∧ k % 12 + j % 3 ≤ 12 ∧ 1 ≤ k / 12 + j / 3 ∧ k / 12 + j / 3 ≤ 9 then some (12 * (k / 12 + j / 3 - 1) + (k % 12 + j % 3 - 1)) else none
def accC (F : Nat → Nat) (c k : Nat) : Nat → Nat
  | 0 => F k
  | j + 1 => match nbj k j with
    | none => accC F c k j
    | some n => min (accC F c k j) (F n + c)
def nv (F : Nat → Nat) (c k : Nat) : Nat := accC F c k 9
theorem nbj_lt {k j n : Nat} (h : nbj k j = some n) : n < 108 := by
  unfold nbj at h
  split at h
  · rename_i g
    cases h
    omega
  · cases h
theorem accC_le (F : Nat → Nat) (c k j : Nat) : accC F c k j ≤ F k := by
  induction j with
  | zero => exact Nat.le_refl _
  | succ j ih =>
    unfold accC
    split
    · exact ih
    · exact Nat.le_trans (Nat.min_le_left _ _) ih
theorem nv_le (F : Nat → Nat) (c k : Nat) : nv F c k ≤ F k := accC_le F c k 9
theorem mn_nI {a b : Nat} (ha : a < 2 ^ 31) (hb : b < 2 ^ 31) : mn (nI a) (nI b) = nI (min a b) := by
  unfold mn
  by_cases h : b < a
  · rw [if_pos (nI_lt h ha), Nat.min_eq_right (by omega)]
  · rw [if_neg (nI_nlt (by omega) hb), Nat.min_eq_left (by omega)]
theorem nIm1 {u : Nat} (h : 1 ≤ u) : nI u - 1 = nI (u - 1) := pk_sub (b := 1) h
theorem nIm1_lt {u : Nat} (hu : u < 1000) (h : ¬ nI u - 1 < 0) : 1 ≤ u := by
  rcases Nat.eq_zero_or_pos u with e | e
  · rw [e] at h
    exact absurd (by decide) h
  · exact e
theorem nIm1_0 {u : Nat} (hu : u < 1000) (h : nI u - 1 < 0) : u = 0 := by
  rcases Nat.eq_zero_or_pos u with e | e
  · exact e
  · rw [nIm1 e] at h
    exact absurd h (nI_pos (by omega))
theorem cst_bI {st : St} {k : Nat} (hk : k < 108) : bI (frB st (nI k)) = nI (cst st k) := by
  rw [frB_bd ⟨k, hk, rfl⟩]
  unfold cst cN bI
  rw [nI_clamp (by omega)]
  split <;> rfl
theorem cst_le (st : St) (k : Nat) : cst st k ≤ 1 := by
  unfold cst
  split <;> omega
/-- an array of ints that holds the Nats F -/
def Nf (f : Nat → Int32) (F : Nat → Nat) : Prop := ∀ n, n < 108 → f n = nI (F n) ∧ F n ≤ 9999
def upN (F : Nat → Nat) (k v : Nat) : Nat → Nat := fun n => if n = k then v else F n
theorem Nf.set {f : Nat → Int32} {F : Nat → Nat} (h : Nf f F) {k v : Nat} (hv : v ≤ 9999) : Nf (upd f k (nI v)) (upN F k v) := by
  intro n hn
  unfold upd upN
  split
  · exact ⟨rfl, hv⟩
  · exact h n hn

set_option maxHeartbeats 4000000 in
theorem m_X2_lessens (z : Zt) (l : Launch) {H : Heap} {F : Nat → Prop} {ad : Nat → Nat → Nat} {st : St} {gh : Gh} (hQ : QW z F ad st gh H) {fa k : Nat} {f : Nat → Int32} {G : Nat → Nat} (hfa : c1 z fa (aI z 108 f) H) (hA : AA z fa) (hk : k < 108) (hF : Nf f G) : Ki z l yX2_lessens cX2_lessens 7 .boolean [.ref (ad 0 0), .ref fa, .int (nI k)] H 3 0 0 (fun r H1 => r = bI (decide (nv G (cst st k) k < G k)) ∧ Up z fa (aI z 108 (upd f k (nI (nv G (cst st k) k)))) H H1) := by
  refine en_Ki (own := RX2) (by decide) rfl (Nat.le_of_ble_eq_true rfl) ?_
  intro ag pp ev sS mM below meth cd ls Q C hS hl hR
  have hx := C.1.1
  have hb := C.1.2.1
  have hl : lv_has ls 7 [(0, .ref (ad 0 0)), (1, .ref fa), (2, .int (nI k))] := hl
  refine lv_aload_n hx hb dX2_lessens_0 rfl (lv_at hl 1 rfl) ?_
  refine lv_iload_n hx hb dX2_lessens_1 rfl (lv_at hl 2 rfl) ?_
  refine g_iald C hfa (vp_in_nI hk (by omega)) dX2_lessens_2 ?_
  refine lv_seti (y := nI (accC G (cst st k) k 0)) (by rw [nI_clamp (by omega)]; exact (hF k hk).1) ?_
  refine lv_istore_n (lv' := [(3, _), (0, _), (1, _), (2, _)]) hx hb dX2_lessens_3 rfl hl (by decide) rfl (fun ls hl => ?_)
  refine lv_iconst (v := 0) hx hb dX2_lessens_4 (by decide) ?_
  refine lv_istore (lv' := [(4, _), (3, _), (0, _), (1, _), (2, _)]) hx hb dX2_lessens_5 hl (by decide) rfl (fun ls hl => ?_)
  have L7 : ∀ (k9 : Nat) (j : Nat) (ls : Array Slot), j ≤ 9 → 10 ≤ j + k9 → lv_has ls 7 [(4, .int (nI j)), (3, .int (nI (accC G (cst st k) k j))), (0, .ref (ad 0 0)), (1, .ref fa), (2, .int (nI k))] → W pp l ev (RL 3 0 0) sS mM ag below meth cd H [] 0 0 Q (F0 mM 7 ls []) := by
    intro k9
    induction k9 with
    | zero =>
      intro j ls hj0 hj1 hl
      omega
    | succ k9 ih =>
      intro j ls hj0 hj1 hl
      have hac : accC G (cst st k) k j ≤ 9999 := Nat.le_trans (accC_le _ _ _ _) (hF k hk).2
      refine lv_iload hx hb dX2_lessens_7 (lv_at hl 0 rfl) ?_
      refine lv_bipush (v := 9) hx hb dX2_lessens_9 (by decide) ?_
      refine lv_icmp_ge (tgt := 94) hx hb dX2_lessens_11 (by decide) (fun c_11 => ?_) (fun c_11 => ?_)
      · skip
        have hj9 : j = 9 := lp_end hj0 c_11 (by omega)
        have hnv : accC G (cst st k) k j = nv G (cst st k) k := by rw [hj9]; rfl
        refine lv_iload_n hx hb dX2_lessens_94 rfl (lv_at hl 1 rfl) ?_
        refine lv_aload_n hx hb dX2_lessens_95 rfl (lv_at hl 3 rfl) ?_
        refine lv_iload_n hx hb dX2_lessens_96 rfl (lv_at hl 4 rfl) ?_
        refine g_iald C hfa (vp_in_nI hk (by omega)) dX2_lessens_97 ?_
        refine lv_seti (y := nI (G k)) (by rw [nI_clamp (by omega)]; exact (hF k hk).1) ?_
        rw [hnv]
        have hGk := (hF k hk).2
        have hnvle := nv_le G (cst st k) k
        refine lv_icmp_ge (tgt := 105) hx hb dX2_lessens_98 (by decide) (fun c_98 => ?_) (fun c_98 => ?_)
        · skip
          have hd : decide (nv G (cst st k) k < G k) = false := decide_eq_false (Nat.not_lt.mpr ((nI_leI (by omega) (by omega)).mp c_98))
          refine lv_iconst (v := 0) hx hb dX2_lessens_105 (by decide) ?_
          refine lv_seti (y := bI (decide (nv G (cst st k) k < G k))) (by rw [hd]; rfl) ?_
          refine lv_istore (lv' := [(4, _), (3, _), (0, _), (1, _), (2, _)]) hx hb dX2_lessens_106 hl (by decide) rfl (fun ls hl => ?_)
          refine lv_aload_n hx hb dX2_lessens_108 rfl (lv_at hl 3 rfl) ?_
          refine lv_iload_n hx hb dX2_lessens_109 rfl (lv_at hl 4 rfl) ?_
          refine lv_iload_n hx hb dX2_lessens_110 rfl (lv_at hl 1 rfl) ?_
          refine g_iast C hfa (vp_in_nI hk (by omega)) hS hA dX2_lessens_111 (fun H1 locs hu hS => ?_)
          rw [nI_clamp (by omega)] at hu
          refine lv_iload hx hb dX2_lessens_112 (lv_at hl 0 rfl) ?_
          exact hR _ _ _ _ _ _ _ dX2_lessens_114 (bI_n _) hS (by omega) (by omega) (⟨rfl, by rw [hnv] at hu; exact hu⟩)
        · skip
          have hd : decide (nv G (cst st k) k < G k) = true := decide_eq_true (Nat.not_le.mp (fun h => c_98 ((nI_leI (by omega) (by omega)).mpr h)))
          refine lv_iconst (v := 1) hx hb dX2_lessens_101 (by decide) ?_
          refine lv_goto (tgt := 106) hx hb dX2_lessens_102 (by decide) ?_
          refine lv_seti (y := bI (decide (nv G (cst st k) k < G k))) (by rw [hd]; rfl) ?_
          refine lv_istore (lv' := [(4, _), (3, _), (0, _), (1, _), (2, _)]) hx hb dX2_lessens_106 hl (by decide) rfl (fun ls hl => ?_)
          refine lv_aload_n hx hb dX2_lessens_108 rfl (lv_at hl 3 rfl) ?_
          refine lv_iload_n hx hb dX2_lessens_109 rfl (lv_at hl 4 rfl) ?_
          refine lv_iload_n hx hb dX2_lessens_110 rfl (lv_at hl 1 rfl) ?_
          refine g_iast C hfa (vp_in_nI hk (by omega)) hS hA dX2_lessens_111 (fun H1 locs hu hS => ?_)
          rw [nI_clamp (by omega)] at hu
          refine lv_iload hx hb dX2_lessens_112 (lv_at hl 0 rfl) ?_
          exact hR _ _ _ _ _ _ _ dX2_lessens_114 (bI_n _) hS (by omega) (by omega) (⟨rfl, by rw [hnv] at hu; exact hu⟩)
      · skip
        have hj : j < 9 := lp_in hj0 c_11 (by omega)
        obtain ⟨u, hu9⟩ : ∃ u, u = k % 12 + j % 3 := ⟨_, rfl⟩
        obtain ⟨v, hv9⟩ : ∃ v, v = k / 12 + j / 3 := ⟨_, rfl⟩
        refine lv_iload_n hx hb dX2_lessens_14 rfl (lv_at hl 4 rfl) ?_
        refine lv_bipush (v := 12) hx hb dX2_lessens_15 (by decide) ?_
        refine lv_irem hx hb dX2_lessens_17 (by decide) ?_
        refine lv_iload hx hb dX2_lessens_18 (lv_at hl 0 rfl) ?_
        refine lv_iconst (v := 3) hx hb dX2_lessens_20 (by decide) ?_
        refine lv_irem hx hb dX2_lessens_21 (by decide) ?_
        refine lv_iadd hx hb dX2_lessens_22 ?_
        refine lv_iconst (v := 1) hx hb dX2_lessens_23 (by decide) ?_
        refine lv_isub hx hb dX2_lessens_24 ?_
        refine lv_seti (y := nI u - 1) (by rw [show (12 : Int32) = nI 12 from rfl, show (3 : Int32) = nI 3 from rfl, pk_rem (by omega) (by omega) (by omega), pk_rem (by omega) (by omega) (by omega), nI_add, hu9]) ?_
        refine lv_istore (lv' := [(5, _), (4, _), (3, _), (0, _), (1, _), (2, _)]) hx hb dX2_lessens_25 hl (by decide) rfl (fun ls hl => ?_)
        refine lv_iload_n hx hb dX2_lessens_27 rfl (lv_at hl 5 rfl) ?_
        refine lv_bipush (v := 12) hx hb dX2_lessens_28 (by decide) ?_
        refine lv_idiv hx hb dX2_lessens_30 (by decide) ?_
        refine lv_iload hx hb dX2_lessens_31 (lv_at hl 1 rfl) ?_
        refine lv_iconst (v := 3) hx hb dX2_lessens_33 (by decide) ?_
        refine lv_idiv hx hb dX2_lessens_34 (by decide) ?_
        refine lv_iadd hx hb dX2_lessens_35 ?_
        refine lv_iconst (v := 1) hx hb dX2_lessens_36 (by decide) ?_
        refine lv_isub hx hb dX2_lessens_37 ?_
        refine lv_seti (y := nI v - 1) (by rw [show (12 : Int32) = nI 12 from rfl, show (3 : Int32) = nI 3 from rfl, pk_div (by omega) (by omega) (by omega), pk_div (by omega) (by omega) (by omega), nI_add, hv9]) ?_
        refine lv_istore (lv' := [(6, _), (5, _), (4, _), (3, _), (0, _), (1, _), (2, _)]) hx hb dX2_lessens_38 hl (by decide) rfl (fun ls hl => ?_)
        refine lv_iload hx hb dX2_lessens_40 (lv_at hl 1 rfl) ?_
        refine lv_if_lt (tgt := 88) hx hb dX2_lessens_42 (by decide) (fun c_42 => ?_) (fun c_42 => ?_)
        · skip
          have hu0 := nIm1_0 (by omega) c_42
          have hnx : accC G (cst st k) k (j + 1) = accC G (cst st k) k j := by
            have e9 : nbj k j = none := if_neg (by omega)
            show (match nbj k j with | none => accC G (cst st k) k j | some n => min (accC G (cst st k) k j) (G n + cst st k)) = _
            rw [e9]
          refine lv_iinc (lv' := [(4, _), (6, _), (5, _), (3, _), (0, _), (1, _), (2, _)]) hx hb dX2_lessens_88 hl (k := 2) rfl (v := nI (j + 1)) (nI_1 j) (by decide) rfl (fun ls hl => ?_)
          refine lv_goto (tgt := 7) hx hb dX2_lessens_91 (by decide) ?_
          exact ih (j + 1) _ (by omega) (by omega) (by first | exact lv_sub hl [0, 1, 4, 5, 6] rfl | (rw [hnx]; exact lv_sub hl [0, 3, 4, 5, 6] rfl))
        · skip
          have hu1 := nIm1_lt (by omega) c_42
          refine lv_iload hx hb dX2_lessens_45 (lv_at hl 1 rfl) ?_
          refine lv_bipush (v := 12) hx hb dX2_lessens_47 (by decide) ?_
          refine lv_icmp_ge (tgt := 88) hx hb dX2_lessens_49 (by decide) (fun c_49 => ?_) (fun c_49 => ?_)
          · skip
            rw [nIm1 hu1] at c_49
            have hu2 : 12 ≤ u - 1 := (nI_leI (a := 12) (by omega) (by omega)).mp c_49
            have hnx : accC G (cst st k) k (j + 1) = accC G (cst st k) k j := by
              have e9 : nbj k j = none := if_neg (by omega)
              show (match nbj k j with | none => accC G (cst st k) k j | some n => min (accC G (cst st k) k j) (G n + cst st k)) = _
              rw [e9]
            refine lv_iinc (lv' := [(4, _), (6, _), (5, _), (3, _), (0, _), (1, _), (2, _)]) hx hb dX2_lessens_88 hl (k := 2) rfl (v := nI (j + 1)) (nI_1 j) (by decide) rfl (fun ls hl => ?_)
            refine lv_goto (tgt := 7) hx hb dX2_lessens_91 (by decide) ?_
            exact ih (j + 1) _ (by omega) (by omega) (by first | exact lv_sub hl [0, 1, 4, 5, 6] rfl | (rw [hnx]; exact lv_sub hl [0, 3, 4, 5, 6] rfl))
          · skip
            rw [nIm1 hu1] at c_49
            have hu2 : ¬ 12 ≤ u - 1 := fun h => c_49 ((nI_leI (a := 12) (by omega) (by omega)).mpr h)
            refine lv_iload hx hb dX2_lessens_52 (lv_at hl 0 rfl) ?_
            refine lv_if_lt (tgt := 88) hx hb dX2_lessens_54 (by decide) (fun c_54 => ?_) (fun c_54 => ?_)
            · skip
              have hv0 := nIm1_0 (by omega) c_54
              have hnx : accC G (cst st k) k (j + 1) = accC G (cst st k) k j := by
                have e9 : nbj k j = none := if_neg (by omega)
                show (match nbj k j with | none => accC G (cst st k) k j | some n => min (accC G (cst st k) k j) (G n + cst st k)) = _
                rw [e9]
              refine lv_iinc (lv' := [(4, _), (6, _), (5, _), (3, _), (0, _), (1, _), (2, _)]) hx hb dX2_lessens_88 hl (k := 2) rfl (v := nI (j + 1)) (nI_1 j) (by decide) rfl (fun ls hl => ?_)
              refine lv_goto (tgt := 7) hx hb dX2_lessens_91 (by decide) ?_
              exact ih (j + 1) _ (by omega) (by omega) (by first | exact lv_sub hl [0, 1, 4, 5, 6] rfl | (rw [hnx]; exact lv_sub hl [0, 3, 4, 5, 6] rfl))
            · skip
              have hv1 := nIm1_lt (by omega) c_54
              refine lv_iload hx hb dX2_lessens_57 (lv_at hl 0 rfl) ?_
              refine lv_bipush (v := 9) hx hb dX2_lessens_59 (by decide) ?_
              refine lv_icmp_lt (tgt := 67) hx hb dX2_lessens_61 (by decide) (fun c_61 => ?_) (fun c_61 => ?_)
              · skip
                rw [nIm1 hv1] at c_61
                have hv2 : v - 1 < 9 := (nI_ltI (b := 9) (by omega) (by omega)).mp c_61
                obtain ⟨n, hn9⟩ : ∃ n, n = 12 * (v - 1) + (u - 1) := ⟨_, rfl⟩
                have hn : n < 108 := by omega
                have hnx : accC G (cst st k) k (j + 1) = min (accC G (cst st k) k j) (G n + cst st k) := by
                  have e9 : nbj k j = some n := by rw [hn9, hu9, hv9]; exact if_pos (by omega)
                  show (match nbj k j with | none => accC G (cst st k) k j | some n => min (accC G (cst st k) k j) (G n + cst st k)) = _
                  rw [e9]
                refine lv_iload_n hx hb dX2_lessens_67 rfl (lv_at hl 3 rfl) ?_
                refine lv_aload_n hx hb dX2_lessens_68 rfl (lv_at hl 5 rfl) ?_
                refine lv_bipush (v := 12) hx hb dX2_lessens_69 (by decide) ?_
                refine lv_iload hx hb dX2_lessens_71 (lv_at hl 0 rfl) ?_
                refine lv_imul hx hb dX2_lessens_73 ?_
                refine lv_iload hx hb dX2_lessens_74 (lv_at hl 1 rfl) ?_
                refine lv_iadd hx hb dX2_lessens_76 ?_
                refine lv_seti (y := nI n) (by rw [nIm1 hu1, nIm1 hv1, show (12 : Int32) = nI 12 from rfl, pk_mul, nI_add, hn9]) ?_
                refine g_iald C hfa (vp_in_nI hn (by omega)) dX2_lessens_77 ?_
                refine lv_seti (y := nI (G n)) (by rw [nI_clamp (by omega)]; exact (hF n hn).1) ?_
                refine lv_aload_n hx hb dX2_lessens_78 rfl (lv_at hl 4 rfl) ?_
                refine lv_iload_n hx hb dX2_lessens_79 rfl (lv_at hl 6 rfl) ?_
                refine cv_X2_152 C hQ.q hS (m_X2_costs z l hQ (Or.inr ⟨k, hk, rfl⟩)) (Nat.le_of_ble_eq_true rfl) hl.1 (Nat.le_of_ble_eq_true rfl) (by omega) (by omega) dX2_lessens_80 (fun r_80 h_80 => ?_)
                subst h_80
                refine lv_seti (y := nI (cst st k)) (cst_bI hk) ?_
                refine lv_iadd hx hb dX2_lessens_83 ?_
                rw [nI_add]
                have hG := (hF n hn).2
                have hcs := cst_le st k
                refine g_min C (C.1.2.2.2.2 _ q145) (Nat.le_of_ble_eq_true rfl) hl.1 (Nat.le_of_ble_eq_true rfl) (by omega) (by omega) dX2_lessens_84 ?_
                rw [mn_nI (by omega) (by omega), ← hnx]
                refine lv_istore_n (lv' := [(3, _), (6, _), (5, _), (4, _), (0, _), (1, _), (2, _)]) hx hb dX2_lessens_87 rfl hl (by decide) rfl (fun ls hl => ?_)
                refine lv_iinc (lv' := [(4, _), (3, _), (6, _), (5, _), (0, _), (1, _), (2, _)]) hx hb dX2_lessens_88 hl (k := 3) rfl (v := nI (j + 1)) (nI_1 j) (by decide) rfl (fun ls hl => ?_)
                refine lv_goto (tgt := 7) hx hb dX2_lessens_91 (by decide) ?_
                exact ih (j + 1) _ (by omega) (by omega) (by first | exact lv_sub hl [0, 1, 4, 5, 6] rfl | (rw [hnx]; exact lv_sub hl [0, 3, 4, 5, 6] rfl))
              · skip
                rw [nIm1 hv1] at c_61
                have hv2 : ¬ v - 1 < 9 := fun h => c_61 ((nI_ltI (b := 9) (by omega) (by omega)).mpr h)
                have hnx : accC G (cst st k) k (j + 1) = accC G (cst st k) k j := by
                  have e9 : nbj k j = none := if_neg (by omega)
                  show (match nbj k j with | none => accC G (cst st k) k j | some n => min (accC G (cst st k) k j) (G n + cst st k)) = _
                  rw [e9]
                refine lv_goto (tgt := 88) hx hb dX2_lessens_64 (by decide) ?_
                refine lv_iinc (lv' := [(4, _), (6, _), (5, _), (3, _), (0, _), (1, _), (2, _)]) hx hb dX2_lessens_88 hl (k := 2) rfl (v := nI (j + 1)) (nI_1 j) (by decide) rfl (fun ls hl => ?_)
                refine lv_goto (tgt := 7) hx hb dX2_lessens_91 (by decide) ?_
                exact ih (j + 1) _ (by omega) (by omega) (by first | exact lv_sub hl [0, 1, 4, 5, 6] rfl | (rw [hnx]; exact lv_sub hl [0, 3, 4, 5, 6] rfl))
  exact L7 10 0 _ (by omega) (by omega) (by rw [nI_0]; exact hl)

