set_option maxRecDepth 100000
def cdF (st : St) (c : Nat) : Nat → Int32
  | 0 => st 1 c - st 1 c / 12 * 12
  | 1 => st 1 c / 12
  | 2 => st 2 c
  | 3 => st 3 c
  | 4 => st 4 c
  | 5 => if st 4 c = 0 then -1 else st 5 (24 * c)
  | 6 => st 6 c
  | _ => sumTo (fun p => bI (seB st p c)) (nP st)
def gdF (st : St) (p : Nat) : Nat → Int32
  | 0 => st 7 p - st 7 p / 12 * 12
  | 1 => st 7 p / 12
  | 2 => st 12 (12 * p + cN (st 8 p))
  | _ => sumTo (fun c => bI (seB st p c)) (nC st)
def coF (st : St) : Nat → Int32
  | 0 => st 9 0
  | 1 => sumTo (fun k => bI (st 0 k == -1)) 108
  | 2 => sumTo (fun k => mx 0 (st 0 k)) 108
  | 3 => sumTo (fun k => bI (st 0 k == 0)) 108
  | 4 => sumTo (fun c => bI (decide (0 < st 2 c))) (nC st)
  | 5 => sumTo (st 2) (nC st)
  | 6 => nI (nP st)
  | _ => sumTo (st 6) (nC st)
def aCrowd (st : St) (c w : Int32) : Ans := cond (inI c (nI (nC st)) && inI w 8) (0, cdF st (cN c) (cN w), st) (1, 0, st)
def aGuard (st : St) (p w : Int32) : Ans := cond (inI p (nI (nP st)) && inI w 4) (0, gdF st (cN p) (cN w), st) (1, 0, st)
def aSees (st : St) (p c : Int32) : Ans := cond (inI p (nI (nP st)) && inI c (nI (nC st))) (0, bI (seB st (cN p) (cN c)), st) (1, 0, st)
def aCount (st : St) (w : Int32) : Ans := cond (inI w 8) (0, coF st (cN w), st) (1, 0, st)
def aWay (st : St) (x y u v : Int32) : Ans := cond (ceB x y && ceB u v) (0, wayF st (cN (ce x y)) (cN (ce u v)), st) (1, 0, st)
def aPass (st : St) (n : Int32) : Ans := cond (inB n 1 60) (0, sumTo (st 2) (nC st) - sumTo (passN st (cN n) 2) (nC (passN st (cN n))), passN st (cN n)) (1, 0, st)
theorem and_l {a b : Bool} (h : a = false) : (a && b) = false := by rw [h]; rfl
theorem and_r {a b : Bool} (h : b = false) : (a && b) = false := by rw [h]; cases a <;> rfl
theorem and_t {a b : Bool} (h : a = true) (g : b = true) : (a && b) = true := by rw [h, g]; rfl
theorem inB_ex {v : Int32} {lo hi : Nat} (hh : hi < 2 ^ 29) (h : nI lo ≤ v ∧ v ≤ nI hi) (hl : lo ≤ hi) : ∃ k, lo ≤ k ∧ k ≤ hi ∧ v = nI k := by
  have hv : ∀ j, j < 2 ^ 30 → (nI j).toInt = j := fun j hj => by unfold nI; rw [Int32.toInt_ofNat_of_lt (by omega)]
  have h1 := Int32.le_iff_toInt_le.mp h.1
  have h2 := Int32.le_iff_toInt_le.mp h.2
  rw [hv lo (by omega)] at h1
  rw [hv hi (by omega)] at h2
  refine ⟨v.toInt.toNat, by omega, by omega, ?_⟩
  apply Int32.toInt_inj.mp
  rw [hv _ (by omega)]
  omega
theorem Inv.ln {st : St} (h : Inv st) {p : Nat} (hp : p < nP st) : cN (st 11 p) ≤ 12 ∧ st 11 p = nI (cN (st 11 p)) ∧ 0 < cN (st 11 p) := by
  obtain ⟨j, hj, e⟩ := (h.2.2.2.1 p hp).2.1
  have e1 : st 11 p = nI (j + 1) := by rw [← nI_1, ← e]; grind
  have e2 : cN (st 11 p) = j + 1 := by rw [e1]; exact nI_clamp (by omega)
  rw [e2]
  exact ⟨by omega, e1, by omega⟩

set_option maxHeartbeats 4000000 in
theorem m_X1_crowdTold (z : Zt) (l : Launch) {H : Heap} {F : Nat → Prop} {ad : Nat → Nat → Nat} {st : St} {gh : Gh} (hQ : QW z F ad st gh H) {a : Nat} (hx9 : c1 z a (.inr (0, [.ref (ad 0 0)])) H) {c j : Nat} (hc : c < nC st) (hj : j < 8) : Ri z l yX1_crowdTold cX1_crowdTold 3 .int [.ref a, .ref (ad 4 c), .int (nI j)] H 5 (fun r => r = cdF st c j) := by
  refine en_Ri (own := RX1) (by decide) rfl (Nat.le_of_ble_eq_true rfl) ?_
  intro ag pp ev sS mM below meth cd ls Q C hS hl hR
  have hx := C.1.1
  have hb := C.1.2.1
  have hl : lv_has ls 3 [(0, .ref a), (1, .ref (ad 4 c)), (2, .int (nI j))] := hl
  have hmc := hQ.mCi hc
  have hb2 := bd2 (hQ.inv.2.2.1 c hc).2.2.1
  have hm0 : mC st c = 0 ↔ st 4 c = 0 := ⟨fun h => by rw [hmc.2, h]; rfl, fun h => by unfold mC; rw [h]; rfl⟩
  refine lv_iload_n hx hb dX1_crowdTold_0 rfl (lv_at hl 2 rfl) ?_
  rcases (show j = 0 ∨ j = 1 ∨ j = 2 ∨ j = 3 ∨ j = 4 ∨ j = 5 ∨ j = 6 ∨ j = 7 by omega) with rfl | rfl | rfl | rfl | rfl | rfl | rfl | rfl
  · skip
    refine lv_tableIn (tgt := 44) (off := 43) hx hb dX1_crowdTold_1 (by decide) (by decide) rfl (by decide) ?_
    refine lv_aload_n hx hb dX1_crowdTold_44 rfl (lv_at hl 1 rfl) ?_
    refine gf_X1_112 C (hQ.c hc) rfl dX1_crowdTold_45 ?_
    refine lv_bipush (v := 12) hx hb dX1_crowdTold_48 (by decide) ?_
    refine lv_irem hx hb dX1_crowdTold_50 (by decide) ?_
    exact hR _ _ _ dX1_crowdTold_51 rfl (rfl)
  · skip
    refine lv_tableIn (tgt := 52) (off := 51) hx hb dX1_crowdTold_1 (by decide) (by decide) rfl (by decide) ?_
    refine lv_aload_n hx hb dX1_crowdTold_52 rfl (lv_at hl 1 rfl) ?_
    refine gf_X1_112 C (hQ.c hc) rfl dX1_crowdTold_53 ?_
    refine lv_bipush (v := 12) hx hb dX1_crowdTold_56 (by decide) ?_
    refine lv_idiv hx hb dX1_crowdTold_58 (by decide) ?_
    exact hR _ _ _ dX1_crowdTold_59 rfl (rfl)
  · skip
    refine lv_tableIn (tgt := 60) (off := 59) hx hb dX1_crowdTold_1 (by decide) (by decide) rfl (by decide) ?_
    refine lv_aload_n hx hb dX1_crowdTold_60 rfl (lv_at hl 1 rfl) ?_
    refine gf_X1_116 C (hQ.c hc) rfl dX1_crowdTold_61 ?_
    exact hR _ _ _ dX1_crowdTold_64 rfl (rfl)
  · skip
    refine lv_tableIn (tgt := 65) (off := 64) hx hb dX1_crowdTold_1 (by decide) (by decide) rfl (by decide) ?_
    refine lv_aload_n hx hb dX1_crowdTold_65 rfl (lv_at hl 1 rfl) ?_
    refine gf_X1_100 C (hQ.c hc) rfl dX1_crowdTold_66 ?_
    refine lv_if_eq (tgt := 76) hx hb dX1_crowdTold_69 (by decide) (fun c_69 => ?_) (fun c_69 => ?_)
    · skip
      have hr : st 3 c = 0 := c_69
      refine lv_iconst (v := 0) hx hb dX1_crowdTold_76 (by decide) ?_
      exact hR _ _ _ dX1_crowdTold_77 rfl (hr.symm)
    · skip
      have hr : st 3 c = 1 := hb2.resolve_left c_69
      refine lv_iconst (v := 1) hx hb dX1_crowdTold_72 (by decide) ?_
      refine lv_goto (tgt := 77) hx hb dX1_crowdTold_73 (by decide) ?_
      exact hR _ _ _ dX1_crowdTold_77 rfl (hr.symm)
  · skip
    refine lv_tableIn (tgt := 78) (off := 77) hx hb dX1_crowdTold_1 (by decide) (by decide) rfl (by decide) ?_
    refine lv_aload_n hx hb dX1_crowdTold_78 rfl (lv_at hl 1 rfl) ?_
    refine gf_X1_91 C (hQ.c hc) rfl dX1_crowdTold_79 ?_
    refine cv_X1_69 C (hQ.lo hc) hS (m_J2_size z l (hQ.lo hc)) (Nat.le_of_ble_eq_true rfl) hl.1 (Nat.le_of_ble_eq_true rfl) (by omega) (by omega) dX1_crowdTold_82 (fun r_82 h_82 => ?_)
    subst h_82
    exact hR _ _ _ dX1_crowdTold_85 rfl (hmc.2.symm)
  · skip
    refine lv_tableIn (tgt := 86) (off := 85) hx hb dX1_crowdTold_1 (by decide) (by decide) rfl (by decide) ?_
    refine lv_aload_n hx hb dX1_crowdTold_86 rfl (lv_at hl 1 rfl) ?_
    refine gf_X1_91 C (hQ.c hc) rfl dX1_crowdTold_87 ?_
    refine cv_X1_119 C (hQ.lo hc) hS (m_J2_isEmpty z l (hQ.lo hc)) (Nat.le_of_ble_eq_true rfl) hl.1 (Nat.le_of_ble_eq_true rfl) (by omega) (by omega) dX1_crowdTold_90 (fun r_90 h_90 => ?_)
    subst h_90
    rw [← hmc.2]
    refine lv_if_eq (tgt := 100) hx hb dX1_crowdTold_93 (by decide) (fun c_93 => ?_) (fun c_93 => ?_)
    · skip
      have h0 : ¬ st 4 c = 0 := fun h => by rw [if_pos h] at c_93; exact absurd c_93 (by decide)
      have hm1 : 0 < mC st c := Nat.pos_of_ne_zero (fun h => h0 (hm0.mp h))
      have hob : st 5 (24 * c) = nI (cN (st 5 (24 * c))) ∧ cN (st 5 (24 * c)) < 12 := ((hQ.inv.2.2.1 c hc).2.2.2.2 0 hm1).cl (by omega)
      have hget : Rq z l yJ2_get cJ2_get 2 (.object "java/lang/Object") [.ref (ad 2 (c + 2)), .int 0] H 3 (fun r => r = some (zi z (cN (st 5 (24 * c)) + 128))) := m_getO z l hQ (k := 0) hc hm1
      have hr : (if st 4 c = 0 then -1 else st 5 (24 * c)) = st 5 (24 * c) := if_neg h0
      refine lv_aload_n hx hb dX1_crowdTold_100 rfl (lv_at hl 1 rfl) ?_
      refine gf_X1_91 C (hQ.c hc) rfl dX1_crowdTold_101 ?_
      refine lv_iconst (v := 0) hx hb dX1_crowdTold_104 (by decide) ?_
      refine cv_X1_122 C (hQ.lo hc) hS (hget) (Nat.le_of_ble_eq_true rfl) hl.1 (Nat.le_of_ble_eq_true rfl) (by omega) (by omega) dX1_crowdTold_105 (fun r_105 h_105 => ?_)
      subst h_105
      refine va_castE hx hb C.1.2.2.2.1 (C.1.2.2.2.2 _ q219) (C.recvI hS (by omega)) dX1_crowdTold_108 ?_
      refine cv_X1_123 C (C.recvI hS (by omega)) hS (m_J17_intValue z l (by omega)) (Nat.le_of_ble_eq_true rfl) hl.1 (Nat.le_of_ble_eq_true rfl) (by omega) (by omega) dX1_crowdTold_111 (fun r_111 h_111 => ?_)
      subst h_111
      refine lv_seti (y := st 5 (24 * c)) hob.1.symm ?_
      exact hR _ _ _ dX1_crowdTold_114 rfl (hr.symm)
    · skip
      have h0 : st 4 c = 0 := Decidable.byContradiction (fun h => by rw [if_neg h] at c_93; exact absurd rfl c_93)
      have hr : (if st 4 c = 0 then -1 else st 5 (24 * c)) = -1 := if_pos h0
      refine lv_iconst (v := (-1)) hx hb dX1_crowdTold_96 (by decide) ?_
      refine lv_goto (tgt := 114) hx hb dX1_crowdTold_97 (by decide) ?_
      exact hR _ _ _ dX1_crowdTold_114 rfl (hr.symm)
  · skip
    refine lv_tableIn (tgt := 115) (off := 114) hx hb dX1_crowdTold_1 (by decide) (by decide) rfl (by decide) ?_
    refine lv_aload_n hx hb dX1_crowdTold_115 rfl (lv_at hl 1 rfl) ?_
    refine gf_X1_126 C (hQ.c hc) rfl dX1_crowdTold_116 ?_
    exact hR _ _ _ dX1_crowdTold_119 rfl (rfl)
  · skip
    refine lv_tableOut (tgt := 120) hx hb dX1_crowdTold_1 (by decide) (by decide) ?_
    refine lv_aload_n hx hb dX1_crowdTold_120 rfl (lv_at hl 0 rfl) ?_
    refine gf_X1_39 C hx9 rfl dX1_crowdTold_121 ?_
    refine lv_aload_n hx hb dX1_crowdTold_124 rfl (lv_at hl 1 rfl) ?_
    refine cv_X1_129 C hQ.q hS (m_X2_seenBy z l hQ hc) (Nat.le_of_ble_eq_true rfl) hl.1 (Nat.le_of_ble_eq_true rfl) (by omega) (by omega) dX1_crowdTold_125 (fun r_125 h_125 => ?_)
    subst h_125
    exact hR _ _ _ dX1_crowdTold_128 rfl (rfl)

set_option maxHeartbeats 4000000 in
theorem m_X1_seen (z : Zt) (l : Launch) {H : Heap} {F : Nat → Prop} {ad : Nat → Nat → Nat} {st : St} {gh : Gh} (hQ : QW z F ad st gh H) {a : Nat} (hx9 : c1 z a (.inr (0, [.ref (ad 0 0)])) H) {p : Nat} (hp : p < nP st) : Ri z l yX1_seen cX1_seen 4 .int [.ref a, .ref (ad 5 p)] H 4 (fun r => r = sumTo (fun c => bI (seB st p c)) (nC st)) := by
  refine en_Ri (own := RX1) (by decide) rfl (Nat.le_of_ble_eq_true rfl) ?_
  intro ag pp ev sS mM below meth cd ls Q C hS hl hR
  have hx := C.1.1
  have hb := C.1.2.1
  have hl : lv_has ls 4 [(0, .ref a), (1, .ref (ad 5 p))] := hl
  refine lv_iconst (v := 0) hx hb dX1_seen_0 (by decide) ?_
  refine lv_istore_n (lv' := [(2, _), (0, _), (1, _)]) hx hb dX1_seen_1 rfl hl (by decide) rfl (fun ls hl => ?_)
  refine lv_iconst (v := 0) hx hb dX1_seen_2 (by decide) ?_
  refine lv_istore_n (lv' := [(3, _), (2, _), (0, _), (1, _)]) hx hb dX1_seen_3 rfl hl (by decide) rfl (fun ls hl => ?_)
  have L4 : ∀ (k9 : Nat) (k : Nat) (ls : Array Slot), k ≤ nC st → nC st + 1 ≤ k + k9 → lv_has ls 4 [(3, .int (nI k)), (2, .int (sumTo (fun c => bI (seB st p c)) k)), (0, .ref a), (1, .ref (ad 5 p))] → W pp l ev (RL 4 0 0) sS mM ag below meth cd H [] 0 0 Q (F0 mM 4 ls []) := by
    intro k9
    induction k9 with
    | zero =>
      intro k ls hk0 hk1 hl
      omega
    | succ k9 ih =>
      intro k ls hk0 hk1 hl
      refine lv_iload_n hx hb dX1_seen_4 rfl (lv_at hl 0 rfl) ?_
      refine lv_aload_n hx hb dX1_seen_5 rfl (lv_at hl 2 rfl) ?_
      refine gf_X1_39 C hx9 rfl dX1_seen_6 ?_
      refine gf_X1_65 C hQ.q rfl dX1_seen_9 ?_
      refine cv_X1_69 C hQ.lc hS (m_J2_size z l hQ.lc) (Nat.le_of_ble_eq_true rfl) hl.1 (Nat.le_of_ble_eq_true rfl) (by omega) (by omega) dX1_seen_12 (fun r_12 h_12 => ?_)
      subst h_12
      refine lv_icmp_ge (tgt := 57) hx hb dX1_seen_15 (by decide) (fun c_15 => ?_) (fun c_15 => ?_)
      · skip
        have hke : k = nC st := lp_end hk0 c_15 (by have := hQ.nCi; omega)
        refine lv_iload_n hx hb dX1_seen_57 rfl (lv_at hl 1 rfl) ?_
        exact hR _ _ _ dX1_seen_58 rfl (by rw [hke])
      · skip
        have hk : k < nC st := lp_in hk0 c_15 (by have := hQ.nCi; omega)
        refine lv_iload_n hx hb dX1_seen_18 rfl (lv_at hl 1 rfl) ?_
        refine lv_aload_n hx hb dX1_seen_19 rfl (lv_at hl 2 rfl) ?_
        refine gf_X1_39 C hx9 rfl dX1_seen_20 ?_
        refine lv_aload_n hx hb dX1_seen_23 rfl (lv_at hl 3 rfl) ?_
        refine lv_aload_n hx hb dX1_seen_24 rfl (lv_at hl 2 rfl) ?_
        refine gf_X1_39 C hx9 rfl dX1_seen_25 ?_
        refine gf_X1_65 C hQ.q rfl dX1_seen_28 ?_
        refine lv_iload_n hx hb dX1_seen_31 rfl (lv_at hl 0 rfl) ?_
        refine cv_X1_122 C hQ.lc hS (m_getC z l hQ hk) (Nat.le_of_ble_eq_true rfl) hl.1 (Nat.le_of_ble_eq_true rfl) (by omega) (by omega) dX1_seen_32 (fun r_32 h_32 => ?_)
        subst h_32
        refine va_castE hx hb C.1.2.2.2.1 (C.1.2.2.2.2 _ q210) ((hQ.c hk).recv C.2.1 rfl) dX1_seen_35 ?_
        refine cv_X1_137 C hQ.q hS (m_X2_sees z l hQ hp hk) (Nat.le_of_ble_eq_true rfl) hl.1 (Nat.le_of_ble_eq_true rfl) (by omega) (by omega) dX1_seen_38 (fun r_38 h_38 => ?_)
        subst h_38
        refine lv_if_eq (tgt := 48) hx hb dX1_seen_41 (by decide) (fun c_41 => ?_) (fun c_41 => ?_)
        · skip
          have hv := bI_f c_41
          refine lv_iconst (v := 0) hx hb dX1_seen_48 (by decide) ?_
          refine lv_iadd hx hb dX1_seen_49 ?_
          refine lv_seti (y := sumTo (fun c => bI (seB st p c)) (k + 1)) (by show _ = _ + bI (seB st p k); rw [hv]; rfl) ?_
          refine lv_istore_n (lv' := [(2, _), (3, _), (0, _), (1, _)]) hx hb dX1_seen_50 rfl hl (by decide) rfl (fun ls hl => ?_)
          refine lv_iinc (lv' := [(3, _), (2, _), (0, _), (1, _)]) hx hb dX1_seen_51 hl (k := 1) rfl (v := nI (k + 1)) (nI_1 k) (by decide) rfl (fun ls hl => ?_)
          refine lv_goto (tgt := 4) hx hb dX1_seen_54 (by decide) ?_
          exact ih (k + 1) _ (by omega) (by omega) hl
        · skip
          have hv := bI_t c_41
          refine lv_iconst (v := 1) hx hb dX1_seen_44 (by decide) ?_
          refine lv_goto (tgt := 49) hx hb dX1_seen_45 (by decide) ?_
          refine lv_iadd hx hb dX1_seen_49 ?_
          refine lv_seti (y := sumTo (fun c => bI (seB st p c)) (k + 1)) (by show _ = _ + bI (seB st p k); rw [hv]; rfl) ?_
          refine lv_istore_n (lv' := [(2, _), (3, _), (0, _), (1, _)]) hx hb dX1_seen_50 rfl hl (by decide) rfl (fun ls hl => ?_)
          refine lv_iinc (lv' := [(3, _), (2, _), (0, _), (1, _)]) hx hb dX1_seen_51 hl (k := 1) rfl (v := nI (k + 1)) (nI_1 k) (by decide) rfl (fun ls hl => ?_)
          refine lv_goto (tgt := 4) hx hb dX1_seen_54 (by decide) ?_
          exact ih (k + 1) _ (by omega) (by omega) hl
  exact L4 (nC st + 1) 0 _ (by omega) (by omega) (by rw [nI_0]; exact hl)

set_option maxHeartbeats 4000000 in
theorem m_X1_patrolTold (z : Zt) (l : Launch) {H : Heap} {F : Nat → Prop} {ad : Nat → Nat → Nat} {st : St} {gh : Gh} (hQ : QW z F ad st gh H) {a : Nat} (hx9 : c1 z a (.inr (0, [.ref (ad 0 0)])) H) {p j : Nat} (hp : p < nP st) (hj : j < 4) : Ri z l yX1_patrolTold cX1_patrolTold 3 .int [.ref a, .ref (ad 5 p), .int (nI j)] H 5 (fun r => r = gdF st p j) := by
  refine en_Ri (own := RX1) (by decide) rfl (Nat.le_of_ble_eq_true rfl) ?_
  intro ag pp ev sS mM below meth cd ls Q C hS hl hR
  have hx := C.1.1
  have hb := C.1.2.1
  have hl : lv_has ls 3 [(0, .ref a), (1, .ref (ad 5 p)), (2, .int (nI j))] := hl
  have hnx := (hQ.inv.2.2.2.1 p hp)
  have hlen := hQ.inv.ln hp
  have hln := hnx.2.2.1.cl (by omega)
  refine lv_iload_n hx hb dX1_patrolTold_0 rfl (lv_at hl 2 rfl) ?_
  refine lv_if_ne (tgt := 14) hx hb dX1_patrolTold_1 (by decide) (fun c_1 => ?_) (fun c_1 => ?_)
  · skip
    have hj0 : j ≠ 0 := fun h => c_1 (by rw [h]; rfl)
    refine lv_iload_n hx hb dX1_patrolTold_14 rfl (lv_at hl 2 rfl) ?_
    refine lv_iconst (v := 1) hx hb dX1_patrolTold_15 (by decide) ?_
    refine lv_icmp_ne (tgt := 29) hx hb dX1_patrolTold_16 (by decide) (fun c_16 => ?_) (fun c_16 => ?_)
    · skip
      have hj1 : j ≠ 1 := fun h => c_16 (by rw [h]; rfl)
      refine lv_iload_n hx hb dX1_patrolTold_29 rfl (lv_at hl 2 rfl) ?_
      refine lv_iconst (v := 2) hx hb dX1_patrolTold_30 (by decide) ?_
      refine lv_icmp_ne (tgt := 41) hx hb dX1_patrolTold_31 (by decide) (fun c_31 => ?_) (fun c_31 => ?_)
      · skip
        have hj9 : j ≠ 2 := fun h => c_31 (by rw [h]; rfl)
        have hj2 : j = 3 := by omega
        subst hj2
        refine lv_aload_n hx hb dX1_patrolTold_41 rfl (lv_at hl 0 rfl) ?_
        refine lv_aload_n hx hb dX1_patrolTold_42 rfl (lv_at hl 1 rfl) ?_
        refine cv_X1_145 C hx9 hS (m_X1_seen z l hQ hx9 hp) (Nat.le_of_ble_eq_true rfl) hl.1 (Nat.le_of_ble_eq_true rfl) (by omega) (by omega) dX1_patrolTold_43 (fun r_43 h_43 => ?_)
        subst h_43
        exact hR _ _ _ dX1_patrolTold_46 rfl (rfl)
      · skip
        have hj2 : j = 2 := by rcases (show j = 2 ∨ j = 3 by omega) with rfl | rfl; rfl; exact absurd c_31 (by decide)
        subst hj2
        refine lv_aload_n hx hb dX1_patrolTold_34 rfl (lv_at hl 1 rfl) ?_
        refine cv_X1_142 C (hQ.p hp) hS (m_X6_direction z l (hQ.p hp) (hQ.r hp) (by rw [hln.1]; exact vp_in_nI hln.2 (by omega))) (Nat.le_of_ble_eq_true rfl) hl.1 (Nat.le_of_ble_eq_true rfl) (by omega) (by omega) dX1_patrolTold_35 (fun r_35 h_35 => ?_)
        subst h_35
        refine lv_goto (tgt := 46) hx hb dX1_patrolTold_38 (by decide) ?_
        exact hR _ _ _ dX1_patrolTold_46 rfl (rfl)
    · skip
      have hj1 : j = 1 := by rcases (show j = 0 ∨ j = 1 ∨ j = 2 ∨ j = 3 by omega) with rfl | rfl | rfl | rfl; exact absurd c_16 (by decide); rfl; all_goals exact absurd c_16 (by decide)
      subst hj1
      refine lv_aload_n hx hb dX1_patrolTold_19 rfl (lv_at hl 1 rfl) ?_
      refine gf_X1_141 C (hQ.p hp) rfl dX1_patrolTold_20 ?_
      refine lv_bipush (v := 12) hx hb dX1_patrolTold_23 (by decide) ?_
      refine lv_idiv hx hb dX1_patrolTold_25 (by decide) ?_
      refine lv_goto (tgt := 46) hx hb dX1_patrolTold_26 (by decide) ?_
      exact hR _ _ _ dX1_patrolTold_46 rfl (rfl)
  · skip
    have hj0 : j = 0 := by rcases (show j = 0 ∨ j = 1 ∨ j = 2 ∨ j = 3 by omega) with rfl | rfl | rfl | rfl; rfl; all_goals exact absurd c_1 (by decide)
    subst hj0
    refine lv_aload_n hx hb dX1_patrolTold_4 rfl (lv_at hl 1 rfl) ?_
    refine gf_X1_141 C (hQ.p hp) rfl dX1_patrolTold_5 ?_
    refine lv_bipush (v := 12) hx hb dX1_patrolTold_8 (by decide) ?_
    refine lv_irem hx hb dX1_patrolTold_10 (by decide) ?_
    refine lv_goto (tgt := 46) hx hb dX1_patrolTold_11 (by decide) ?_
    exact hR _ _ _ dX1_patrolTold_46 rfl (rfl)

set_option maxHeartbeats 4000000 in
theorem m_X1_missed (z : Zt) (l : Launch) {H : Heap} {F : Nat → Prop} {ad : Nat → Nat → Nat} {st : St} {gh : Gh} (hQ : QW z F ad st gh H) {a : Nat} (hx9 : c1 z a (.inr (0, [.ref (ad 0 0)])) H) : Ri z l yX1_missed cX1_missed 3 .int [.ref a] H 4 (fun r => r = sumTo (st 6) (nC st)) := by
  refine en_Ri (own := RX1) (by decide) rfl (Nat.le_of_ble_eq_true rfl) ?_
  intro ag pp ev sS mM below meth cd ls Q C hS hl hR
  have hx := C.1.1
  have hb := C.1.2.1
  have hl : lv_has ls 3 [(0, .ref a)] := hl
  refine lv_iconst (v := 0) hx hb dX1_missed_0 (by decide) ?_
  refine lv_istore_n (lv' := [(1, _), (0, _)]) hx hb dX1_missed_1 rfl hl (by decide) rfl (fun ls hl => ?_)
  refine lv_iconst (v := 0) hx hb dX1_missed_2 (by decide) ?_
  refine lv_istore_n (lv' := [(2, _), (1, _), (0, _)]) hx hb dX1_missed_3 rfl hl (by decide) rfl (fun ls hl => ?_)
  have L4 : ∀ (k9 : Nat) (k : Nat) (ls : Array Slot), k ≤ nC st → nC st + 1 ≤ k + k9 → lv_has ls 3 [(2, .int (nI k)), (1, .int (sumTo (st 6) k)), (0, .ref a)] → W pp l ev (RL 4 0 0) sS mM ag below meth cd H [] 0 0 Q (F0 mM 4 ls []) := by
    intro k9
    induction k9 with
    | zero =>
      intro k ls hk0 hk1 hl
      omega
    | succ k9 ih =>
      intro k ls hk0 hk1 hl
      refine lv_iload_n hx hb dX1_missed_4 rfl (lv_at hl 0 rfl) ?_
      refine lv_aload_n hx hb dX1_missed_5 rfl (lv_at hl 2 rfl) ?_
      refine gf_X1_39 C hx9 rfl dX1_missed_6 ?_
      refine gf_X1_65 C hQ.q rfl dX1_missed_9 ?_
      refine cv_X1_69 C hQ.lc hS (m_J2_size z l hQ.lc) (Nat.le_of_ble_eq_true rfl) hl.1 (Nat.le_of_ble_eq_true rfl) (by omega) (by omega) dX1_missed_12 (fun r_12 h_12 => ?_)
      subst h_12
      refine lv_icmp_ge (tgt := 44) hx hb dX1_missed_15 (by decide) (fun c_15 => ?_) (fun c_15 => ?_)
      · skip
        have hke : k = nC st := lp_end hk0 c_15 (by have := hQ.nCi; omega)
        refine lv_iload_n hx hb dX1_missed_44 rfl (lv_at hl 1 rfl) ?_
        exact hR _ _ _ dX1_missed_45 rfl (by rw [hke])
      · skip
        have hk : k < nC st := lp_in hk0 c_15 (by have := hQ.nCi; omega)
        refine lv_iload_n hx hb dX1_missed_18 rfl (lv_at hl 1 rfl) ?_
        refine lv_aload_n hx hb dX1_missed_19 rfl (lv_at hl 2 rfl) ?_
        refine gf_X1_39 C hx9 rfl dX1_missed_20 ?_
        refine gf_X1_65 C hQ.q rfl dX1_missed_23 ?_
        refine lv_iload_n hx hb dX1_missed_26 rfl (lv_at hl 0 rfl) ?_
        refine cv_X1_122 C hQ.lc hS (m_getC z l hQ hk) (Nat.le_of_ble_eq_true rfl) hl.1 (Nat.le_of_ble_eq_true rfl) (by omega) (by omega) dX1_missed_27 (fun r_27 h_27 => ?_)
        subst h_27
        refine va_castE hx hb C.1.2.2.2.1 (C.1.2.2.2.2 _ q210) ((hQ.c hk).recv C.2.1 rfl) dX1_missed_30 ?_
        refine gf_X1_126 C (hQ.c hk) rfl dX1_missed_33 ?_
        refine lv_iadd hx hb dX1_missed_36 ?_
        refine lv_istore_n (lv' := [(1, _), (2, _), (0, _)]) hx hb dX1_missed_37 rfl hl (by decide) rfl (fun ls hl => ?_)
        refine lv_iinc (lv' := [(2, _), (1, _), (0, _)]) hx hb dX1_missed_38 hl (k := 1) rfl (v := nI (k + 1)) (nI_1 k) (by decide) rfl (fun ls hl => ?_)
        refine lv_goto (tgt := 4) hx hb dX1_missed_41 (by decide) ?_
        exact ih (k + 1) _ (by omega) (by omega) hl
  exact L4 (nC st + 1) 0 _ (by omega) (by omega) (by rw [nI_0]; exact hl)

set_option maxHeartbeats 4000000 in
theorem m_X1_counted (z : Zt) (l : Launch) {H : Heap} {F : Nat → Prop} {ad : Nat → Nat → Nat} {st : St} {gh : Gh} (hQ : QW z F ad st gh H) {a : Nat} (hx9 : c1 z a (.inr (0, [.ref (ad 0 0)])) H) {j : Nat} (hj : j < 8) : Ri z l yX1_counted cX1_counted 2 .int [.ref a, .int (nI j)] H 5 (fun r => r = coF st j) := by
  refine en_Ri (own := RX1) (by decide) rfl (Nat.le_of_ble_eq_true rfl) ?_
  intro ag pp ev sS mM below meth cd ls Q C hS hl hR
  have hx := C.1.1
  have hb := C.1.2.1
  have hl : lv_has ls 2 [(0, .ref a), (1, .int (nI j))] := hl
  refine lv_iload_n hx hb dX1_counted_0 rfl (lv_at hl 1 rfl) ?_
  rcases (show j = 0 ∨ j = 1 ∨ j = 2 ∨ j = 3 ∨ j = 4 ∨ j = 5 ∨ j = 6 ∨ j = 7 by omega) with rfl | rfl | rfl | rfl | rfl | rfl | rfl | rfl
  · skip
    refine lv_tableIn (tgt := 44) (off := 43) hx hb dX1_counted_1 (by decide) (by decide) rfl (by decide) ?_
    refine lv_aload_n hx hb dX1_counted_44 rfl (lv_at hl 0 rfl) ?_
    refine gf_X1_39 C hx9 rfl dX1_counted_45 ?_
    refine gf_X1_153 C hQ.q rfl dX1_counted_48 ?_
    exact hR _ _ _ dX1_counted_51 rfl (rfl)
  · skip
    refine lv_tableIn (tgt := 52) (off := 51) hx hb dX1_counted_1 (by decide) (by decide) rfl (by decide) ?_
    refine lv_aload_n hx hb dX1_counted_52 rfl (lv_at hl 0 rfl) ?_
    refine gf_X1_39 C hx9 rfl dX1_counted_53 ?_
    refine lv_iconst (v := (-1)) hx hb dX1_counted_56 (by decide) ?_
    refine cv_X1_156 C hQ.q hS (m_X2_cellsLike z l hQ) (Nat.le_of_ble_eq_true rfl) hl.1 (Nat.le_of_ble_eq_true rfl) (by omega) (by omega) dX1_counted_57 (fun r_57 h_57 => ?_)
    subst h_57
    exact hR _ _ _ dX1_counted_60 rfl (rfl)
  · skip
    refine lv_tableIn (tgt := 61) (off := 60) hx hb dX1_counted_1 (by decide) (by decide) rfl (by decide) ?_
    refine lv_aload_n hx hb dX1_counted_61 rfl (lv_at hl 0 rfl) ?_
    refine gf_X1_39 C hx9 rfl dX1_counted_62 ?_
    refine cv_X1_160 C hQ.q hS (m_X2_barricades z l hQ) (Nat.le_of_ble_eq_true rfl) hl.1 (Nat.le_of_ble_eq_true rfl) (by omega) (by omega) dX1_counted_65 (fun r_65 h_65 => ?_)
    subst h_65
    exact hR _ _ _ dX1_counted_68 rfl (rfl)
  · skip
    refine lv_tableIn (tgt := 69) (off := 68) hx hb dX1_counted_1 (by decide) (by decide) rfl (by decide) ?_
    refine lv_aload_n hx hb dX1_counted_69 rfl (lv_at hl 0 rfl) ?_
    refine gf_X1_39 C hx9 rfl dX1_counted_70 ?_
    refine lv_iconst (v := 0) hx hb dX1_counted_73 (by decide) ?_
    refine cv_X1_156 C hQ.q hS (m_X2_cellsLike z l hQ) (Nat.le_of_ble_eq_true rfl) hl.1 (Nat.le_of_ble_eq_true rfl) (by omega) (by omega) dX1_counted_74 (fun r_74 h_74 => ?_)
    subst h_74
    exact hR _ _ _ dX1_counted_77 rfl (rfl)
  · skip
    refine lv_tableIn (tgt := 78) (off := 77) hx hb dX1_counted_1 (by decide) (by decide) rfl (by decide) ?_
    refine lv_aload_n hx hb dX1_counted_78 rfl (lv_at hl 0 rfl) ?_
    refine gf_X1_39 C hx9 rfl dX1_counted_79 ?_
    refine cv_X1_163 C hQ.q hS (m_X2_crowdsThere z l hQ) (Nat.le_of_ble_eq_true rfl) hl.1 (Nat.le_of_ble_eq_true rfl) (by omega) (by omega) dX1_counted_82 (fun r_82 h_82 => ?_)
    subst h_82
    exact hR _ _ _ dX1_counted_85 rfl (rfl)
  · skip
    refine lv_tableIn (tgt := 86) (off := 85) hx hb dX1_counted_1 (by decide) (by decide) rfl (by decide) ?_
    refine lv_aload_n hx hb dX1_counted_86 rfl (lv_at hl 0 rfl) ?_
    refine gf_X1_39 C hx9 rfl dX1_counted_87 ?_
    refine cv_X1_166 C hQ.q hS (m_X2_people z l hQ) (Nat.le_of_ble_eq_true rfl) hl.1 (Nat.le_of_ble_eq_true rfl) (by omega) (by omega) dX1_counted_90 (fun r_90 h_90 => ?_)
    subst h_90
    exact hR _ _ _ dX1_counted_93 rfl (rfl)
  · skip
    refine lv_tableIn (tgt := 94) (off := 93) hx hb dX1_counted_1 (by decide) (by decide) rfl (by decide) ?_
    refine lv_aload_n hx hb dX1_counted_94 rfl (lv_at hl 0 rfl) ?_
    refine gf_X1_39 C hx9 rfl dX1_counted_95 ?_
    refine gf_X1_104 C hQ.q rfl dX1_counted_98 ?_
    refine cv_X1_69 C hQ.lp hS (m_J2_size z l hQ.lp) (Nat.le_of_ble_eq_true rfl) hl.1 (Nat.le_of_ble_eq_true rfl) (by omega) (by omega) dX1_counted_101 (fun r_101 h_101 => ?_)
    subst h_101
    exact hR _ _ _ dX1_counted_104 rfl (rfl)
  · skip
    refine lv_tableOut (tgt := 105) hx hb dX1_counted_1 (by decide) (by decide) ?_
    refine lv_aload_n hx hb dX1_counted_105 rfl (lv_at hl 0 rfl) ?_
    refine cv_X1_168 C hx9 hS (m_X1_missed z l hQ hx9) (Nat.le_of_ble_eq_true rfl) hl.1 (Nat.le_of_ble_eq_true rfl) (by omega) (by omega) dX1_counted_106 (fun r_106 h_106 => ?_)
    subst h_106
    exact hR _ _ _ dX1_counted_109 rfl (rfl)

set_option maxHeartbeats 4000000 in
theorem m_X1_count (z : Zt) (l : Launch) {H : Heap} (hlT : l.stackTraces = false) {F : Nat → Prop} {ad : Nat → Nat → Nat} {st : St} {gh : Gh} (hQ : QW z F ad st gh H) {a : Nat} (hx9 : c1 z a (.inr (0, [.ref (ad 0 0)])) H) (hFa : ¬ F a) {w : Int32} : Xi z l yX1_count cX1_count 2 .int [.ref a, .int w] H 8 1 6 (fun r H1 => ∃ st1, aCount st w = (0, r, st1) ∧ XP z F ad st1 H H1) (fun E => (E = eI_ ∧ (aCount st w).1 = 1)) := by
  refine en_Xi (own := RX1) (by decide) rfl (Nat.le_of_ble_eq_true rfl) ?_
  intro ag pp ev sS mM below meth cd ls Q C hS hl hR hX
  have hx := C.1.1
  have hb := C.1.2.1
  have hl : lv_has ls 2 [(0, .ref a), (1, .int w)] := hl
  refine lv_iload_n hx hb dX1_count_0 rfl (lv_at hl 1 rfl) ?_
  refine lv_bipush (v := 8) hx hb dX1_count_1 (by decide) ?_
  refine cv_X1_25 C hS (m_X1_requireIndex z l hlT) (Nat.le_of_ble_eq_true rfl) hl.1 (Nat.le_of_ble_eq_true rfl) (by omega) (by omega) dX1_count_3 (fun E ce9 q9 H1 locs hpx hE hS h1 h2 h3 => hX _ _ _ _ _ _ _ _ _ _ h1 h2 h3 hS (by omega) (by omega) hE (⟨hpx.1, by unfold aCount; rw [inI_f hpx.2]; rfl⟩)) (fun H1 locs h_3 hz_3 hS => ?_)
  obtain ⟨e3, h3⟩ := h_3
  rw [e3] at hS ⊢
  obtain ⟨j, hj, rfl⟩ := cOk_ex (n := 8) (by omega) h3
  refine lv_aload_n hx hb dX1_count_6 rfl (lv_at hl 0 rfl) ?_
  refine lv_iload_n hx hb dX1_count_7 rfl (lv_at hl 1 rfl) ?_
  refine cv_X1_170 C hx9 hS (m_X1_counted z l hQ hx9 hj) (Nat.le_of_ble_eq_true rfl) hl.1 (Nat.le_of_ble_eq_true rfl) (by omega) (by omega) dX1_count_8 (fun r_8 h_8 => ?_)
  subst h_8
  exact hR _ _ _ _ _ _ _ dX1_count_11 rfl hS (by omega) (by omega) (⟨_, by unfold aCount; rw [inI_t h3, show cN (nI j) = j from nI_clamp (by omega)]; rfl, hQ.xp Ext.rf⟩)

set_option maxHeartbeats 4000000 in
theorem m_X1_crowd (z : Zt) (l : Launch) {H : Heap} (hlT : l.stackTraces = false) {F : Nat → Prop} {ad : Nat → Nat → Nat} {st : St} {gh : Gh} (hQ : QW z F ad st gh H) {a : Nat} (hx9 : c1 z a (.inr (0, [.ref (ad 0 0)])) H) (hFa : ¬ F a) {i w : Int32} : Xi z l yX1_crowd cX1_crowd 4 .int [.ref a, .int i, .int w] H 8 2 12 (fun r H1 => ∃ st1, aCrowd st i w = (0, r, st1) ∧ XP z F ad st1 H H1) (fun E => (E = eI_ ∧ (aCrowd st i w).1 = 1)) := by
  refine en_Xi (own := RX1) (by decide) rfl (Nat.le_of_ble_eq_true rfl) ?_
  intro ag pp ev sS mM below meth cd ls Q C hS hl hR hX
  have hx := C.1.1
  have hb := C.1.2.1
  have hl : lv_has ls 4 [(0, .ref a), (1, .int i), (2, .int w)] := hl
  refine lv_aload_n hx hb dX1_crowd_0 rfl (lv_at hl 0 rfl) ?_
  refine gf_X1_39 C hx9 rfl dX1_crowd_1 ?_
  refine gf_X1_65 C hQ.q rfl dX1_crowd_4 ?_
  refine lv_iload_n hx hb dX1_crowd_7 rfl (lv_at hl 1 rfl) ?_
  refine cv_X1_83 C hS (m_knC z l hlT hQ) (Nat.le_of_ble_eq_true rfl) hl.1 (Nat.le_of_ble_eq_true rfl) (by omega) (by omega) dX1_crowd_8 (fun E ce9 q9 H1 locs hpx hE hS h1 h2 h3 => hX _ _ _ _ _ _ _ _ _ _ h1 h2 h3 hS (by omega) (by omega) hE (⟨hpx.1, by unfold aCrowd; rw [and_l (inI_f hpx.2)]; rfl⟩)) (fun r_8 H1 locs h_8 hz_8 hS => ?_)
  obtain ⟨e8, k, hk, hi, h8⟩ := h_8
  rw [e8] at hS ⊢
  subst hi
  subst h8
  have hN := hQ.nCi
  have hin := inI_t (cOk_nI (by omega) hk)
  have hcl : cN (nI k) = k := nI_clamp (by omega)
  refine va_castE hx hb C.1.2.2.2.1 (C.1.2.2.2.2 _ q210) ((hQ.c hk).recv C.2.1 rfl) dX1_crowd_11 ?_
  refine lv_astore_n (lv' := [(3, _), (0, _), (1, _), (2, _)]) hx hb dX1_crowd_14 rfl hl (by decide) rfl (fun ls hl => ?_)
  refine lv_iload_n hx hb dX1_crowd_15 rfl (lv_at hl 3 rfl) ?_
  refine lv_bipush (v := 8) hx hb dX1_crowd_16 (by decide) ?_
  refine cv_X1_25 C hS (m_X1_requireIndex z l hlT) (Nat.le_of_ble_eq_true rfl) hl.1 (Nat.le_of_ble_eq_true rfl) (by omega) (by omega) dX1_crowd_18 (fun E ce9 q9 H1 locs hpx hE hS h1 h2 h3 => hX _ _ _ _ _ _ _ _ _ _ h1 h2 h3 hS (by omega) (by omega) hE (⟨hpx.1, by unfold aCrowd; rw [and_r (inI_f hpx.2)]; rfl⟩)) (fun H1 locs h_18 hz_18 hS => ?_)
  obtain ⟨e18, h18⟩ := h_18
  rw [e18] at hS ⊢
  obtain ⟨j, hj, rfl⟩ := cOk_ex (n := 8) (by omega) h18
  refine lv_aload_n hx hb dX1_crowd_21 rfl (lv_at hl 1 rfl) ?_
  refine lv_aload_n hx hb dX1_crowd_22 rfl (lv_at hl 0 rfl) ?_
  refine lv_iload_n hx hb dX1_crowd_23 rfl (lv_at hl 3 rfl) ?_
  refine cv_X1_133 C hx9 hS (m_X1_crowdTold z l hQ hx9 hk hj) (Nat.le_of_ble_eq_true rfl) hl.1 (Nat.le_of_ble_eq_true rfl) (by omega) (by omega) dX1_crowd_24 (fun r_24 h_24 => ?_)
  subst h_24
  exact hR _ _ _ _ _ _ _ dX1_crowd_27 rfl hS (by omega) (by omega) (⟨_, by unfold aCrowd; rw [and_t hin (inI_t h18), hcl, show cN (nI j) = j from nI_clamp (by omega)]; rfl, hQ.xp Ext.rf⟩)

set_option maxHeartbeats 4000000 in
theorem m_X1_guard (z : Zt) (l : Launch) {H : Heap} (hlT : l.stackTraces = false) {F : Nat → Prop} {ad : Nat → Nat → Nat} {st : St} {gh : Gh} (hQ : QW z F ad st gh H) {a : Nat} (hx9 : c1 z a (.inr (0, [.ref (ad 0 0)])) H) (hFa : ¬ F a) {i w : Int32} : Xi z l yX1_guard cX1_guard 4 .int [.ref a, .int i, .int w] H 8 2 12 (fun r H1 => ∃ st1, aGuard st i w = (0, r, st1) ∧ XP z F ad st1 H H1) (fun E => (E = eI_ ∧ (aGuard st i w).1 = 1)) := by
  refine en_Xi (own := RX1) (by decide) rfl (Nat.le_of_ble_eq_true rfl) ?_
  intro ag pp ev sS mM below meth cd ls Q C hS hl hR hX
  have hx := C.1.1
  have hb := C.1.2.1
  have hl : lv_has ls 4 [(0, .ref a), (1, .int i), (2, .int w)] := hl
  refine lv_aload_n hx hb dX1_guard_0 rfl (lv_at hl 0 rfl) ?_
  refine gf_X1_39 C hx9 rfl dX1_guard_1 ?_
  refine gf_X1_104 C hQ.q rfl dX1_guard_4 ?_
  refine lv_iload_n hx hb dX1_guard_7 rfl (lv_at hl 1 rfl) ?_
  refine cv_X1_83 C hS (m_knP z l hlT hQ) (Nat.le_of_ble_eq_true rfl) hl.1 (Nat.le_of_ble_eq_true rfl) (by omega) (by omega) dX1_guard_8 (fun E ce9 q9 H1 locs hpx hE hS h1 h2 h3 => hX _ _ _ _ _ _ _ _ _ _ h1 h2 h3 hS (by omega) (by omega) hE (⟨hpx.1, by unfold aGuard; rw [and_l (inI_f hpx.2)]; rfl⟩)) (fun r_8 H1 locs h_8 hz_8 hS => ?_)
  obtain ⟨e8, k, hk, hi, h8⟩ := h_8
  rw [e8] at hS ⊢
  subst hi
  subst h8
  have hN := hQ.nPi
  have hin := inI_t (cOk_nI (by omega) hk)
  have hcl : cN (nI k) = k := nI_clamp (by omega)
  refine va_castE hx hb C.1.2.2.2.1 (C.1.2.2.2.2 _ q243) ((hQ.p hk).recv C.2.1 rfl) dX1_guard_11 ?_
  refine lv_astore_n (lv' := [(3, _), (0, _), (1, _), (2, _)]) hx hb dX1_guard_14 rfl hl (by decide) rfl (fun ls hl => ?_)
  refine lv_iload_n hx hb dX1_guard_15 rfl (lv_at hl 3 rfl) ?_
  refine lv_iconst (v := 4) hx hb dX1_guard_16 (by decide) ?_
  refine cv_X1_25 C hS (m_X1_requireIndex z l hlT) (Nat.le_of_ble_eq_true rfl) hl.1 (Nat.le_of_ble_eq_true rfl) (by omega) (by omega) dX1_guard_17 (fun E ce9 q9 H1 locs hpx hE hS h1 h2 h3 => hX _ _ _ _ _ _ _ _ _ _ h1 h2 h3 hS (by omega) (by omega) hE (⟨hpx.1, by unfold aGuard; rw [and_r (inI_f hpx.2)]; rfl⟩)) (fun H1 locs h_17 hz_17 hS => ?_)
  obtain ⟨e17, h17⟩ := h_17
  rw [e17] at hS ⊢
  obtain ⟨j, hj, rfl⟩ := cOk_ex (n := 4) (by omega) h17
  refine lv_aload_n hx hb dX1_guard_20 rfl (lv_at hl 1 rfl) ?_
  refine lv_aload_n hx hb dX1_guard_21 rfl (lv_at hl 0 rfl) ?_
  refine lv_iload_n hx hb dX1_guard_22 rfl (lv_at hl 3 rfl) ?_
  refine cv_X1_149 C hx9 hS (m_X1_patrolTold z l hQ hx9 hk hj) (Nat.le_of_ble_eq_true rfl) hl.1 (Nat.le_of_ble_eq_true rfl) (by omega) (by omega) dX1_guard_23 (fun r_23 h_23 => ?_)
  subst h_23
  exact hR _ _ _ _ _ _ _ dX1_guard_26 rfl hS (by omega) (by omega) (⟨_, by unfold aGuard; rw [and_t hin (inI_t h17), hcl, show cN (nI j) = j from nI_clamp (by omega)]; rfl, hQ.xp Ext.rf⟩)

set_option maxHeartbeats 4000000 in
theorem m_X1_sees (z : Zt) (l : Launch) {H : Heap} (hlT : l.stackTraces = false) {F : Nat → Prop} {ad : Nat → Nat → Nat} {st : St} {gh : Gh} (hQ : QW z F ad st gh H) {a : Nat} (hx9 : c1 z a (.inr (0, [.ref (ad 0 0)])) H) (hFa : ¬ F a) {i w : Int32} : Xi z l yX1_sees cX1_sees 4 .boolean [.ref a, .int i, .int w] H 8 2 12 (fun r H1 => ∃ st1, aSees st i w = (0, r, st1) ∧ XP z F ad st1 H H1) (fun E => (E = eI_ ∧ (aSees st i w).1 = 1)) := by
  refine en_Xi (own := RX1) (by decide) rfl (Nat.le_of_ble_eq_true rfl) ?_
  intro ag pp ev sS mM below meth cd ls Q C hS hl hR hX
  have hx := C.1.1
  have hb := C.1.2.1
  have hl : lv_has ls 4 [(0, .ref a), (1, .int i), (2, .int w)] := hl
  refine lv_aload_n hx hb dX1_sees_0 rfl (lv_at hl 0 rfl) ?_
  refine gf_X1_39 C hx9 rfl dX1_sees_1 ?_
  refine gf_X1_104 C hQ.q rfl dX1_sees_4 ?_
  refine lv_iload_n hx hb dX1_sees_7 rfl (lv_at hl 1 rfl) ?_
  refine cv_X1_83 C hS (m_knP z l hlT hQ) (Nat.le_of_ble_eq_true rfl) hl.1 (Nat.le_of_ble_eq_true rfl) (by omega) (by omega) dX1_sees_8 (fun E ce9 q9 H1 locs hpx hE hS h1 h2 h3 => hX _ _ _ _ _ _ _ _ _ _ h1 h2 h3 hS (by omega) (by omega) hE (⟨hpx.1, by unfold aSees; rw [and_l (inI_f hpx.2)]; rfl⟩)) (fun r_8 H1 locs h_8 hz_8 hS => ?_)
  obtain ⟨e8, k, hk, hi, h8⟩ := h_8
  rw [e8] at hS ⊢
  subst hi
  subst h8
  have hN := hQ.nPi
  have hin := inI_t (cOk_nI (by omega) hk)
  have hcl : cN (nI k) = k := nI_clamp (by omega)
  refine va_castE hx hb C.1.2.2.2.1 (C.1.2.2.2.2 _ q243) ((hQ.p hk).recv C.2.1 rfl) dX1_sees_11 ?_
  refine lv_astore_n (lv' := [(3, _), (0, _), (1, _), (2, _)]) hx hb dX1_sees_14 rfl hl (by decide) rfl (fun ls hl => ?_)
  refine lv_aload_n hx hb dX1_sees_15 rfl (lv_at hl 1 rfl) ?_
  refine gf_X1_39 C hx9 rfl dX1_sees_16 ?_
  refine lv_aload_n hx hb dX1_sees_19 rfl (lv_at hl 0 rfl) ?_
  refine lv_aload_n hx hb dX1_sees_20 rfl (lv_at hl 1 rfl) ?_
  refine gf_X1_39 C hx9 rfl dX1_sees_21 ?_
  refine gf_X1_65 C hQ.q rfl dX1_sees_24 ?_
  refine lv_iload_n hx hb dX1_sees_27 rfl (lv_at hl 3 rfl) ?_
  refine cv_X1_83 C hS (m_knC z l hlT hQ) (Nat.le_of_ble_eq_true rfl) hl.1 (Nat.le_of_ble_eq_true rfl) (by omega) (by omega) dX1_sees_28 (fun E ce9 q9 H1 locs hpx hE hS h1 h2 h3 => hX _ _ _ _ _ _ _ _ _ _ h1 h2 h3 hS (by omega) (by omega) hE (⟨hpx.1, by unfold aSees; rw [and_r (inI_f hpx.2)]; rfl⟩)) (fun r_28 H1 locs h_28 hz_28 hS => ?_)
  obtain ⟨e28, c, hc, hi, h28⟩ := h_28
  rw [e28] at hS ⊢
  subst hi
  subst h28
  have hN2 := hQ.nCi
  have hin2 := inI_t (cOk_nI (by omega) hc)
  have hcl2 : cN (nI c) = c := nI_clamp (by omega)
  refine va_castE hx hb C.1.2.2.2.1 (C.1.2.2.2.2 _ q210) ((hQ.c hc).recv C.2.1 rfl) dX1_sees_31 ?_
  refine cv_X1_137 C hQ.q hS (m_X2_sees z l hQ hk hc) (Nat.le_of_ble_eq_true rfl) hl.1 (Nat.le_of_ble_eq_true rfl) (by omega) (by omega) dX1_sees_34 (fun r_34 h_34 => ?_)
  subst h_34
  exact hR _ _ _ _ _ _ _ dX1_sees_37 (bI_n _) hS (by omega) (by omega) (⟨_, by unfold aSees; rw [and_t hin hin2, hcl, hcl2]; rfl, hQ.xp Ext.rf⟩)

set_option maxHeartbeats 4000000 in
theorem m_X1_way (z : Zt) (l : Launch) {H : Heap} (hlT : l.stackTraces = false) {F : Nat → Prop} {ad : Nat → Nat → Nat} {st : St} {gh : Gh} (hQ : QW z F ad st gh H) {a : Nat} (hx9 : c1 z a (.inr (0, [.ref (ad 0 0)])) H) (hFa : ¬ F a) {x y u v : Int32} : Xi z l yX1_way cX1_way 5 .int [.ref a, .int x, .int y, .int u, .int v] H 8 6 240 (fun r H1 => ∃ st1, aWay st x y u v = (0, r, st1) ∧ XP z F ad st1 H H1) (fun E => (E = eI_ ∧ (aWay st x y u v).1 = 1)) := by
  refine en_Xi (own := RX1) (by decide) rfl (Nat.le_of_ble_eq_true rfl) ?_
  intro ag pp ev sS mM below meth cd ls Q C hS hl hR hX
  have hx := C.1.1
  have hb := C.1.2.1
  have hl : lv_has ls 5 [(0, .ref a), (1, .int x), (2, .int y), (3, .int u), (4, .int v)] := hl
  refine lv_aload_n hx hb dX1_way_0 rfl (lv_at hl 0 rfl) ?_
  refine gf_X1_39 C hx9 rfl dX1_way_1 ?_
  refine lv_iload_n hx hb dX1_way_4 rfl (lv_at hl 1 rfl) ?_
  refine lv_iload_n hx hb dX1_way_5 rfl (lv_at hl 2 rfl) ?_
  refine cv_X1_43 C hS (m_X1_cellAt z l hlT) (Nat.le_of_ble_eq_true rfl) hl.1 (Nat.le_of_ble_eq_true rfl) (by omega) (by omega) dX1_way_6 (fun E ce9 q9 H1 locs hpx hE hS h1 h2 h3 => hX _ _ _ _ _ _ _ _ _ _ h1 h2 h3 hS (by omega) (by omega) hE (⟨hpx.1, by unfold aWay; rw [and_l (ceB_f hpx.2)]; rfl⟩)) (fun r_6 H1 locs h_6 hz_6 hS => ?_)
  obtain ⟨e6, h2, hce⟩ := h_6
  rw [e6] at hS ⊢
  subst h2
  have hB := ce_Bd hce
  refine lv_iload_n hx hb dX1_way_9 rfl (lv_at hl 3 rfl) ?_
  refine lv_iload hx hb dX1_way_10 (lv_at hl 4 rfl) ?_
  refine cv_X1_43 C hS (m_X1_cellAt z l hlT) (Nat.le_of_ble_eq_true rfl) hl.1 (Nat.le_of_ble_eq_true rfl) (by omega) (by omega) dX1_way_12 (fun E ce9 q9 H1 locs hpx hE hS h1 h2 h3 => hX _ _ _ _ _ _ _ _ _ _ h1 h2 h3 hS (by omega) (by omega) hE (⟨hpx.1, by unfold aWay; rw [and_r (ceB_f hpx.2)]; rfl⟩)) (fun r_12 H1 locs h_12 hz_12 hS => ?_)
  obtain ⟨e12, h2, hce2⟩ := h_12
  rw [e12] at hS ⊢
  subst h2
  have hB2 := ce_Bd hce2
  have hC1 := hB.cl (by omega)
  have hC2 := hB2.cl (by omega)
  rw [hC1.1, hC2.1]
  refine cv_X1_173 C hQ.q hS (m_X2_way z l hQ hC1.2 hC2.2) (Nat.le_of_ble_eq_true rfl) hl.1 (Nat.le_of_ble_eq_true rfl) (by omega) (by omega) dX1_way_15 (fun r_15 H1 locs h_15 hz_15 hS => ?_)
  obtain ⟨h15, hE15⟩ := h_15
  subst h15
  exact hR _ _ _ _ _ _ _ dX1_way_18 rfl hS (by omega) (by omega) (⟨_, by unfold aWay; rw [and_t (ceB_t hce) (ceB_t hce2)]; rfl, hQ.xp hE15⟩)

set_option maxHeartbeats 4000000 in
theorem m_X1_shuts (z : Zt) (l : Launch) {H : Heap} {F : Nat → Prop} {ad : Nat → Nat → Nat} {st : St} {gh : Gh} (hQ : QW z F ad st gh H) {a : Nat} (hx9 : c1 z a (.inr (0, [.ref (ad 0 0)])) H) : Ki z l yX1_shuts cX1_shuts 1 .int [.ref a] H 5 1 108 (fun r H1 => r = nI (shF (cst st) 1000) ∧ Ext H H1) := by
  refine en_Ki (own := RX1) (by decide) rfl (Nat.le_of_ble_eq_true rfl) ?_
  intro ag pp ev sS mM below meth cd ls Q C hS hl hR
  have hx := C.1.1
  have hb := C.1.2.1
  have hl : lv_has ls 1 [(0, .ref a)] := hl
  refine lv_aload_n hx hb dX1_shuts_0 rfl (lv_at hl 0 rfl) ?_
  refine gf_X1_39 C hx9 rfl dX1_shuts_1 ?_
  refine cv_X1_176 C hQ.q hS (m_X2_shuts z l hQ) (Nat.le_of_ble_eq_true rfl) hl.1 (Nat.le_of_ble_eq_true rfl) (by omega) (by omega) dX1_shuts_4 (fun r_4 H1 locs h_4 hz_4 hS => ?_)
  obtain ⟨h4, hE4⟩ := h_4
  subst h4
  exact hR _ _ _ _ _ _ _ dX1_shuts_7 rfl hS (by omega) (by omega) (⟨rfl, hE4⟩)

