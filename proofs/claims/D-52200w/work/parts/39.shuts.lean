set_option maxRecDepth 100000
def swp (cs : Nat → Nat) : Nat → (Nat → Nat) → Nat → Nat
  | 0, F => F
  | n + 1, F => upN (swp cs n F) n (nv (swp cs n F) (cs n) n)
def chg (cs : Nat → Nat) : Nat → (Nat → Nat) → Bool
  | 0, _ => false
  | n + 1, F => chg cs n F || decide (nv (swp cs n F) (cs n) n < swp cs n F n)
def lpS (cs : Nat → Nat) : Nat → (Nat → Nat) → Nat → Nat
  | 0, F => F
  | n + 1, F => cond (chg cs 108 F) (lpS cs n (swp cs 108 F)) (swp cs 108 F)
def sumN (F : Nat → Nat) : Nat → Nat
  | 0 => 0
  | n + 1 => sumN F n + F n
def minL (F : Nat → Nat) (far : Nat) : Nat → Nat
  | 0 => far
  | n + 1 => min (minL F far n) (F (96 + n))
def F0s (cs : Nat → Nat) (far : Nat) : Nat → Nat := fun k => if k < 12 then cs k else far
def shF (cs : Nat → Nat) (far : Nat) : Nat := minL (lpS cs 2000000 (F0s cs far)) far 12
theorem sumN_up {F : Nat → Nat} {k v : Nat} (n : Nat) (hv : v ≤ F k) : sumN (upN F k v) n + (if k < n then F k else 0) = sumN F n + (if k < n then v else 0) := by
  induction n with
  | zero => rfl
  | succ n ih =>
    show sumN (upN F k v) n + upN F k v n + _ = sumN F n + F n + _
    unfold upN at ih ⊢
    by_cases e : n = k
    · subst e
      rw [if_pos rfl, if_pos (by omega), if_pos (by omega)]
      rw [if_neg (by omega), if_neg (by omega)] at ih
      omega
    · rw [if_neg e]
      by_cases g : k < n
      · rw [if_pos g, if_pos g] at ih
        rw [if_pos (by omega), if_pos (by omega)]
        omega
      · rw [if_neg g, if_neg g] at ih
        rw [if_neg (by omega), if_neg (by omega)]
        omega
theorem swp_sum (cs : Nat → Nat) (F : Nat → Nat) (n : Nat) (hn : n ≤ 108) : sumN (swp cs n F) 108 ≤ sumN F 108 ∧ (chg cs n F = true → sumN (swp cs n F) 108 < sumN F 108) := by
  induction n with
  | zero => exact ⟨Nat.le_refl _, fun h => by cases h⟩
  | succ n ih =>
    obtain ⟨h1, h2⟩ := ih (by omega)
    have h3 := sumN_up (F := swp cs n F) (k := n) (v := nv (swp cs n F) (cs n) n) 108 (nv_le _ _ _)
    rw [if_pos (by omega), if_pos (by omega)] at h3
    have h4 := nv_le (swp cs n F) (cs n) n
    have e : sumN (swp cs (n + 1) F) 108 = sumN (upN (swp cs n F) n (nv (swp cs n F) (cs n) n)) 108 := rfl
    rw [e]
    refine ⟨by omega, fun h => ?_⟩
    have h5 : (chg cs n F || decide (nv (swp cs n F) (cs n) n < swp cs n F n)) = true := h
    rw [Bool.or_eq_true] at h5
    rcases h5 with h5 | h5
    · have := h2 h5
      omega
    · have := of_decide_eq_true h5
      omega
theorem sumN_le {F : Nat → Nat} (h : ∀ n, n < 108 → F n ≤ 9999) (n : Nat) (hn : n ≤ 108) : sumN F n ≤ 9999 * n := by
  induction n with
  | zero => exact Nat.le_refl _
  | succ n ih =>
    have h1 := ih (by omega)
    have h2 := h n (by omega)
    show sumN F n + F n ≤ _
    omega

set_option maxHeartbeats 4000000 in
theorem m_X2_shuts (z : Zt) (l : Launch) {H : Heap} {F : Nat → Prop} {ad : Nat → Nat → Nat} {st : St} {gh : Gh} (hQ : QW z F ad st gh H) : Ki z l yX2_shuts cX2_shuts 5 .int [.ref (ad 0 0)] H 4 1 108 (fun r H1 => r = nI (shF (cst st) 1000) ∧ Ext H H1) := by
  refine en_Ki (own := RX2) (by decide) rfl (Nat.le_of_ble_eq_true rfl) ?_
  intro ag pp ev sS mM below meth cd ls Q C hS hl hR
  have hx := C.1.1
  have hb := C.1.2.1
  have hl : lv_has ls 5 [(0, .ref (ad 0 0))] := hl
  have hQ0 := hQ
  have hS0 := hS
  refine lv_bipush (v := 108) hx hb dX2_shuts_0 (by decide) ?_
  refine r_newi C (by decide) (N := 108) rfl (by omega) hS (by omega) (by omega) dX2_shuts_2 (fun H1 hn hS => ?_)
  have hfa := hn.1
  have hsz := hn.2.1
  have hE := hn.ext
  have hA : AA z H.size := (C.2.2.1.S hS0).1
  have hQ1 := hQ.ext hE
  obtain ⟨H2, eH2⟩ : ∃ h, h = H1 := ⟨_, rfl⟩
  rw [← eH2] at hfa hsz hE hQ1 hS ⊢
  refine lv_astore_n (lv' := [(1, _), (0, _)]) hx hb dX2_shuts_4 rfl hl (by decide) rfl (fun ls hl => ?_)
  refine lv_iconst (v := 0) hx hb dX2_shuts_5 (by decide) ?_
  refine lv_istore_n (lv' := [(2, _), (1, _), (0, _)]) hx hb dX2_shuts_6 rfl hl (by decide) rfl (fun ls hl => ?_)
  have L7 : ∀ (k9 : Nat) (k : Nat) (H3 : Heap) (locs : List Loc) (f : Nat → Int32) (ls : Array Slot), k ≤ 108 → 109 ≤ k + k9 → (∀ n, n < k → f n = nI (F0s (cst st) 1000 n)) → c1 z H.size (aI z 108 f) H3 → QW z F ad st gh H3 → Ext H H3 → va_S (AA z) sS.heap H3 locs → lv_has ls 5 [(2, .int (nI k)), (1, .ref H.size), (0, .ref (ad 0 0))] → W pp l ev (RL 4 1 108) sS mM ag below meth cd H3 locs (0 + 1) (0 + 108) Q (F0 mM 7 ls []) := by
    intro k9
    induction k9 with
    | zero =>
      intro k H3 locs f ls hk0 hk1 hf hfa hQ hE hS hl
      omega
    | succ k9 ih =>
      intro k H3 locs f ls hk0 hk1 hf hfa hQ hE hS hl
      refine lv_iload_n hx hb dX2_shuts_7 rfl (lv_at hl 0 rfl) ?_
      refine lv_bipush (v := 108) hx hb dX2_shuts_8 (by decide) ?_
      refine lv_icmp_ge (tgt := 39) hx hb dX2_shuts_10 (by decide) (fun c_10 => ?_) (fun c_10 => ?_)
      · skip
        have hke : k = 108 := lp_end hk0 c_10 (by omega)
        refine lv_iconst (v := 1) hx hb dX2_shuts_39 (by decide) ?_
        refine lv_istore_n (lv' := [(2, _), (1, _), (0, _)]) hx hb dX2_shuts_40 rfl hl (by decide) rfl (fun ls hl => ?_)
        have L41 : ∀ (k9 : Nat) (b : Bool) (G : Nat → Nat) (H3 : Heap) (locs : List Loc) (f : Nat → Int32) (ls : Array Slot), 0 < k9 → (b = true → sumN G 108 + 1 < k9) → cond b (lpS (cst st) (k9 - 1) G) G = lpS (cst st) 2000000 (F0s (cst st) 1000) → Nf f G → c1 z H.size (aI z 108 f) H3 → QW z F ad st gh H3 → Ext H H3 → va_S (AA z) sS.heap H3 locs → lv_has ls 5 [(2, .int (bI b)), (1, .ref H.size), (0, .ref (ad 0 0))] → W pp l ev (RL 4 1 108) sS mM ag below meth cd H3 locs (0 + 1) (0 + 108) Q (F0 mM 41 ls []) := by
          intro k9
          induction k9 with
          | zero =>
            intro b G H3 locs f ls h0 hb0 hT hF hfa hQ hE hS hl
            omega
          | succ k9 ih =>
            intro b G H3 locs f ls h0 hb0 hT hF hfa hQ hE hS hl
            refine lv_iload_n hx hb dX2_shuts_41 rfl (lv_at hl 0 rfl) ?_
            refine lv_if_eq (tgt := 73) hx hb dX2_shuts_42 (by decide) (fun c_42 => ?_) (fun c_42 => ?_)
            · skip
              have hbf := bI_f c_42
              rw [hbf] at hT
              have hT : G = lpS (cst st) 2000000 (F0s (cst st) 1000) := hT
              refine lv_sipush (v := 1000) hx hb dX2_shuts_73 (by decide) ?_
              refine lv_istore_n (lv' := [(3, _), (2, _), (1, _), (0, _)]) hx hb dX2_shuts_76 rfl hl (by decide) rfl (fun ls hl => ?_)
              refine lv_bipush (v := 96) hx hb dX2_shuts_77 (by decide) ?_
              refine lv_istore (lv' := [(4, _), (3, _), (2, _), (1, _), (0, _)]) hx hb dX2_shuts_79 hl (by decide) rfl (fun ls hl => ?_)
              have L81 : ∀ (k9 : Nat) (k : Nat) (ls : Array Slot), k ≤ 12 → 13 ≤ k + k9 → lv_has ls 5 [(4, .int (nI (96 + k))), (3, .int (nI (minL G 1000 k))), (1, .ref H.size), (0, .ref (ad 0 0))] → W pp l ev (RL 4 1 108) sS mM ag below meth cd H3 locs (0 + 1) (0 + 108) Q (F0 mM 81 ls []) := by
                intro k9
                induction k9 with
                | zero =>
                  intro k ls hk0 hk1 hl
                  omega
                | succ k9 ih =>
                  intro k ls hk0 hk1 hl
                  have hml : minL G 1000 k ≤ 1000 := by
                    clear hl ih hk1
                    induction k with
                    | zero => exact Nat.le_refl _
                    | succ k ihk => exact Nat.le_trans (Nat.min_le_left _ _) (ihk (by omega))
                  refine lv_iload hx hb dX2_shuts_81 (lv_at hl 0 rfl) ?_
                  refine lv_bipush (v := 108) hx hb dX2_shuts_83 (by decide) ?_
                  refine lv_icmp_ge (tgt := 103) hx hb dX2_shuts_85 (by decide) (fun c_85 => ?_) (fun c_85 => ?_)
                  · skip
                    have hke : k = 12 := by
                      have := lp_end (k := 96 + k) (n := 108) (by omega) c_85 (by omega)
                      omega
                    refine lv_iload_n hx hb dX2_shuts_103 rfl (lv_at hl 1 rfl) ?_
                    exact hR _ _ _ _ _ _ _ dX2_shuts_104 rfl hS (by omega) (by omega) (⟨by rw [hke, hT]; rfl, hE⟩)
                  · skip
                    have hk : k < 12 := by
                      have := lp_in (k := 96 + k) (n := 108) (by omega) c_85 (by omega)
                      omega
                    refine lv_iload_n hx hb dX2_shuts_88 rfl (lv_at hl 1 rfl) ?_
                    refine lv_aload_n hx hb dX2_shuts_89 rfl (lv_at hl 2 rfl) ?_
                    refine lv_iload hx hb dX2_shuts_90 (lv_at hl 0 rfl) ?_
                    refine g_iald C hfa (vp_in_nI (by omega) (by omega)) dX2_shuts_92 ?_
                    refine lv_seti (y := nI (G (96 + k))) (by rw [nI_clamp (by omega)]; exact (hF _ (by omega)).1) ?_
                    have hG9 := (hF (96 + k) (by omega)).2
                    refine g_min C (C.1.2.2.2.2 _ q145) (Nat.le_of_ble_eq_true rfl) hl.1 (Nat.le_of_ble_eq_true rfl) (by omega) (by omega) dX2_shuts_93 ?_
                    rw [mn_nI (by omega) (by omega)]
                    refine lv_istore_n (lv' := [(3, _), (4, _), (1, _), (0, _)]) hx hb dX2_shuts_96 rfl hl (by decide) rfl (fun ls hl => ?_)
                    refine lv_iinc (lv' := [(4, _), (3, _), (1, _), (0, _)]) hx hb dX2_shuts_97 hl (k := 1) rfl (v := nI (96 + (k + 1))) (nI_1 (96 + k)) (by decide) rfl (fun ls hl => ?_)
                    refine lv_goto (tgt := 81) hx hb dX2_shuts_100 (by decide) ?_
                    exact ih (k + 1) _ (by omega) (by omega) hl
              exact L81 13 0 _ (by omega) (by omega) (lv_sub hl [0, 1, 3, 4] rfl)
            · skip
              have hbt := bI_t c_42
              have hs1 := hb0 hbt
              rw [hbt] at hT
              obtain ⟨m9, em9⟩ : ∃ m9, k9 = m9 + 1 := ⟨k9 - 1, by omega⟩
              have hT2 : cond (chg (cst st) 108 G) (lpS (cst st) m9 (swp (cst st) 108 G)) (swp (cst st) 108 G) = lpS (cst st) 2000000 (F0s (cst st) 1000) := by rw [em9] at hT; exact hT
              have hm9 : 0 < k9 := by omega
              have hT5 : cond (chg (cst st) 108 G) (lpS (cst st) (k9 - 1) (swp (cst st) 108 G)) (swp (cst st) 108 G) = lpS (cst st) 2000000 (F0s (cst st) 1000) := by rw [em9]; exact hT2
              refine lv_iconst (v := 0) hx hb dX2_shuts_45 (by decide) ?_
              refine lv_istore_n (lv' := [(2, _), (1, _), (0, _)]) hx hb dX2_shuts_46 rfl hl (by decide) rfl (fun ls hl => ?_)
              have ih1 := ih
              refine lv_iconst (v := 0) hx hb dX2_shuts_47 (by decide) ?_
              refine lv_istore_n (lv' := [(3, _), (2, _), (1, _), (0, _)]) hx hb dX2_shuts_48 rfl hl (by decide) rfl (fun ls hl => ?_)
              have L49 : ∀ (k9 : Nat) (k : Nat) (H3 : Heap) (locs : List Loc) (f : Nat → Int32) (ls : Array Slot), k ≤ 108 → 109 ≤ k + k9 → Nf f (swp (cst st) k G) → c1 z H.size (aI z 108 f) H3 → QW z F ad st gh H3 → Ext H H3 → va_S (AA z) sS.heap H3 locs → lv_has ls 5 [(3, .int (nI k)), (2, .int (bI (chg (cst st) k G))), (1, .ref H.size), (0, .ref (ad 0 0))] → W pp l ev (RL 4 1 108) sS mM ag below meth cd H3 locs (0 + 1) (0 + 108) Q (F0 mM 49 ls []) := by
                intro k9
                induction k9 with
                | zero =>
                  intro k H3 locs f ls hk0 hk1 hF hfa hQ hE hS hl
                  omega
                | succ k9 ih =>
                  intro k H3 locs f ls hk0 hk1 hF hfa hQ hE hS hl
                  have ih2 := ih
                  refine lv_iload_n hx hb dX2_shuts_49 rfl (lv_at hl 0 rfl) ?_
                  refine lv_bipush (v := 108) hx hb dX2_shuts_50 (by decide) ?_
                  refine lv_icmp_ge (tgt := 70) hx hb dX2_shuts_52 (by decide) (fun c_52 => ?_) (fun c_52 => ?_)
                  · skip
                    have hke : k = 108 := lp_end hk0 c_52 (by omega)
                    subst hke
                    have ih := ih1
                    refine lv_goto (tgt := 41) hx hb dX2_shuts_70 (by decide) ?_
                    exact ih _ _ _ _ _ _ hm9 (fun h => by have := (swp_sum (cst st) G 108 (by omega)).2 h; omega) hT5 hF hfa hQ hE hS (lv_sub hl [1, 2, 3] rfl)
                  · skip
                    have hk : k < 108 := lp_in hk0 c_52 (by omega)
                    refine lv_iload_n hx hb dX2_shuts_55 rfl (lv_at hl 1 rfl) ?_
                    refine lv_aload_n hx hb dX2_shuts_56 rfl (lv_at hl 3 rfl) ?_
                    refine lv_aload_n hx hb dX2_shuts_57 rfl (lv_at hl 2 rfl) ?_
                    refine lv_iload_n hx hb dX2_shuts_58 rfl (lv_at hl 0 rfl) ?_
                    refine cv_X2_155 C hQ.q hS (m_X2_lessens z l hQ hfa hA hk hF) (Nat.le_of_ble_eq_true rfl) hl.1 (Nat.le_of_ble_eq_true rfl) (by omega) (by omega) dX2_shuts_59 (fun r_59 H1 locs h_59 hz_59 hS => ?_)
                    have hE4 : Ext H H1 := ⟨by rw [h_59.2.2.1]; exact hE.1, fun q hq => by rw [h_59.2.2.2 q (by omega), hE.2 q hq]⟩
                    have hQ4 : QW z F ad st gh H1 := hQ0.ext hE4
                    have hF4 : Nf (upd f k (nI (nv (swp (cst st) k G) (cst st k) k))) (swp (cst st) (k + 1) G) := hF.set (Nat.le_trans (nv_le _ _ _) (hF k hk).2)
                    have hr9 := h_59.1
                    refine lv_ior hx hb dX2_shuts_62 ?_
                    refine lv_seti (y := bI (chg (cst st) (k + 1) G)) (by rw [hr9]; show _ = bI (_ || decide (nv (swp (cst st) k G) (cst st k) k < swp (cst st) k G k)); cases decide (nv (swp (cst st) k G) (cst st k) k < swp (cst st) k G k); exact or_f _; exact or_t _) ?_
                    refine lv_istore_n (lv' := [(2, _), (3, _), (1, _), (0, _)]) hx hb dX2_shuts_63 rfl hl (by decide) rfl (fun ls hl => ?_)
                    refine lv_iinc (lv' := [(3, _), (2, _), (1, _), (0, _)]) hx hb dX2_shuts_64 hl (k := 1) rfl (v := nI (k + 1)) (nI_1 k) (by decide) rfl (fun ls hl => ?_)
                    refine lv_goto (tgt := 49) hx hb dX2_shuts_67 (by decide) ?_
                    exact ih2 (k + 1) _ _ _ _ (by omega) (by omega) hF4 h_59.2.1 hQ4 hE4 hS hl
              exact L49 109 0 _ _ _ _ (by omega) (by omega) hF hfa hQ hE hS (by rw [nI_0]; exact hl)
        have hF9 : Nf f (F0s (cst st) 1000) := fun n hn => ⟨hf n (by omega), by unfold F0s; split; exact Nat.le_trans (cst_le st n) (by omega); omega⟩
        exact L41 2000001 true (F0s (cst st) 1000) _ _ _ _ (by omega) (fun _ => by have := sumN_le (fun n hn => (hF9 n hn).2) 108 (by omega); omega) rfl hF9 hfa hQ hE hS hl
      · skip
        have hk : k < 108 := lp_in hk0 c_10 (by omega)
        refine lv_aload_n hx hb dX2_shuts_13 rfl (lv_at hl 1 rfl) ?_
        refine lv_iload_n hx hb dX2_shuts_14 rfl (lv_at hl 0 rfl) ?_
        refine lv_iload_n hx hb dX2_shuts_15 rfl (lv_at hl 0 rfl) ?_
        refine lv_bipush (v := 12) hx hb dX2_shuts_16 (by decide) ?_
        refine lv_icmp_ge (tgt := 29) hx hb dX2_shuts_18 (by decide) (fun c_18 => ?_) (fun c_18 => ?_)
        · skip
          have hv9 : ¬ k < 12 := fun h => absurd c_18 (show ¬ nI 12 ≤ nI k from nI_ge h (by decide))
          refine lv_sipush (v := 1000) hx hb dX2_shuts_29 (by decide) ?_
          refine lv_seti (y := nI (F0s (cst st) 1000 k)) (by unfold F0s; first | rw [if_neg hv9]; rfl | (rw [if_pos hv9]; exact cst_bI hk)) ?_
          refine g_iast C hfa (vp_in_nI hk (by omega)) hS hA dX2_shuts_32 (fun H1 locs hu hS => ?_)
          rw [nI_clamp (by omega)] at hu
          have hE4 : Ext H H1 := ⟨by rw [hu.2.1]; exact hE.1, fun q hq => by rw [hu.2.2 q (by omega), hE.2 q hq]⟩
          have hQ4 : QW z F ad st gh H1 := hQ0.ext hE4
          refine lv_iinc (lv' := [(2, _), (1, _), (0, _)]) hx hb dX2_shuts_33 hl (k := 0) rfl (v := nI (k + 1)) (nI_1 k) (by decide) rfl (fun ls hl => ?_)
          refine lv_goto (tgt := 7) hx hb dX2_shuts_36 (by decide) ?_
          exact ih (k + 1) _ _ _ _ (by omega) (by omega) (fun n hn => by
              unfold upd
              split
              · rename_i e
                rw [e]
              · exact hf n (by omega)) hu.1 hQ4 hE4 hS hl
        · skip
          have hv9 : k < 12 := Nat.not_le.mp (fun h => c_18 (nI_le (a := 12) h (by omega)))
          refine lv_aload_n hx hb dX2_shuts_21 rfl (lv_at hl 2 rfl) ?_
          refine lv_iload_n hx hb dX2_shuts_22 rfl (lv_at hl 0 rfl) ?_
          refine cv_X2_152 C hQ.q hS (m_X2_costs z l hQ (Or.inr ⟨k, hk, rfl⟩)) (Nat.le_of_ble_eq_true rfl) hl.1 (Nat.le_of_ble_eq_true rfl) (by omega) (by omega) dX2_shuts_23 (fun r_23 h_23 => ?_)
          subst h_23
          refine lv_goto (tgt := 32) hx hb dX2_shuts_26 (by decide) ?_
          refine lv_seti (y := nI (F0s (cst st) 1000 k)) (by unfold F0s; first | rw [if_neg hv9]; rfl | (rw [if_pos hv9]; exact cst_bI hk)) ?_
          refine g_iast C hfa (vp_in_nI hk (by omega)) hS hA dX2_shuts_32 (fun H1 locs hu hS => ?_)
          rw [nI_clamp (by omega)] at hu
          have hE4 : Ext H H1 := ⟨by rw [hu.2.1]; exact hE.1, fun q hq => by rw [hu.2.2 q (by omega), hE.2 q hq]⟩
          have hQ4 : QW z F ad st gh H1 := hQ0.ext hE4
          refine lv_iinc (lv' := [(2, _), (1, _), (0, _)]) hx hb dX2_shuts_33 hl (k := 0) rfl (v := nI (k + 1)) (nI_1 k) (by decide) rfl (fun ls hl => ?_)
          refine lv_goto (tgt := 7) hx hb dX2_shuts_36 (by decide) ?_
          exact ih (k + 1) _ _ _ _ (by omega) (by omega) (fun n hn => by
              unfold upd
              split
              · rename_i e
                rw [e]
              · exact hf n (by omega)) hu.1 hQ4 hE4 hS hl
  exact L7 109 0 _ _ _ _ (by omega) (by omega) (fun n hn => by omega) hfa hQ1 hE hS (by rw [nI_0]; exact hl)

