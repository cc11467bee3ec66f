set_option maxRecDepth 100000
theorem nar_b {b : Int32} (h : Bd b 2) : narrow .boolean (.int b) = .int b ∧ fits .boolean (.int b) = true := by
  obtain ⟨j, hj, rfl⟩ := h
  rcases (show j = 0 ∨ j = 1 by omega) with rfl | rfl
  · exact ⟨rfl, rfl⟩
  · exact ⟨rfl, rfl⟩
def fI (z : Zt) (v : Nat → Nat) (n : Nat) : Nat → Option Nat := fun k => if k < n then some (zi z (v k + 128)) else none
theorem fI_up (z : Zt) (v : Nat → Nat) (n : Nat) : va_up (fI z v n) n (some (zi z (v n + 128))) = fI z v (n + 1) := by
  funext k
  show (if k = n then some (zi z (v n + 128)) else if k < n then some (zi z (v k + 128)) else none) = (if k < n + 1 then some (zi z (v k + 128)) else none)
  by_cases e : k = n
  · rw [if_pos e, if_pos (by omega), e]
  · rw [if_neg e]
    by_cases g : k < n
    · rw [if_pos g, if_pos (by omega)]
    · rw [if_neg g, if_neg (by omega)]
/-- a list of small Integers at a, made since N -/
def LsI (z : Zt) (a N : Nat) (v : Nat → Nat) (n : Nat) (H : Heap) : Prop := ∃ md e cap, c1 z a (.inr (2, [.int md, .ref e, .int (nI n)])) H ∧ n ≤ cap ∧ cap ≤ 34 ∧ ((cap = 0 ∧ e = zs z 0) ∨ (0 < cap ∧ N ≤ e ∧ e < H.size ∧ c1 z e (aQ z cap (fI z v n)) H))
def CpR (z : Zt) (ce pe bu mi : Int32) (v : Nat → Nat) (n : Nat) (H H1 : Heap) : Prop := c1 z H.size (.inr (5, [.int ce, .int pe, .int bu, .int mi, .ref (H.size + 1)])) H1 ∧ LsI z (H.size + 1) (H.size + 2) v n H1 ∧ Ext H H1

set_option maxHeartbeats 4000000 in
theorem m_X5_copy (z : Zt) (l : Launch) {H : Heap} {a o e n cap : Nat} {ce pe bu mi md : Int32} {v : Nat → Nat} (hq : c1 z a (.inr (5, [.int ce, .int pe, .int bu, .int mi, .ref o])) H) (hbu : Bd bu 2) (ho : c1 z o (.inr (2, [.int md, .ref e, .int (nI n)])) H) (hL : n = 0 ∨ (0 < cap ∧ c1 z e (aQ z cap (fI z v n)) H)) (hnc : n ≤ cap) (hc : cap ≤ 34) (hn24 : n ≤ 24) (hv : ∀ k, k < n → v k < 128) : Kq z l yX5_copy cX5_copy 3 (.object "LaneCrowds$Crowd") [.ref a] H 8 26 824 (fun r H1 => r = some H.size ∧ CpR z ce pe bu mi v n H H1) := by
  refine en_Kq (own := RX5) (by decide) rfl (Nat.le_of_ble_eq_true rfl) (Or.inl ⟨_, rfl⟩) ?_
  intro ag pp ev sS mM below meth cd ls Q C hS hl hR
  have hx := C.1.1
  have hb := C.1.2.1
  have hl : lv_has ls 3 [(0, .ref a)] := hl
  have hA0 : AA z H.size := (C.2.2.1.S hS).1
  have hlta := hq.lt
  have hlto := ho.lt
  refine r_new (ci := 5) (fs := [.int 0, .int 0, .int 0, .int 0, .null]) (C := RX5) (T := TX5) (N := 5) C in_X5 tyX5 tyX5_ok (C.1.2.2.2.2 _ q721) (C.1.2.2.2.2 _ q439) (C.1.2.2.2.2 _ q54) rfl (fun j hj => by rcases (show j = 0 ∨ j = 1 ∨ j = 2 ∨ j = 3 ∨ j = 4 by omega) with rfl | rfl | rfl | rfl | rfl <;> rfl) hS (by omega) (by omega) dX5_copy_0 (fun H1 hn hS => ?_)
  have hn0 := hn
  have s0 := hn0.2.1
  have hq1 := hq.ext hn0.ext
  refine lv_dup hx hb dX5_copy_3 rfl ?_
  refine lv_aload_n hx hb dX5_copy_4 rfl (lv_at hl 0 rfl) ?_
  refine gf_X5_22 C hq1 rfl dX5_copy_5 ?_
  refine lv_aload_n hx hb dX5_copy_8 rfl (lv_at hl 0 rfl) ?_
  refine gf_X5_26 C hq1 rfl dX5_copy_9 ?_
  refine cv_X5_29 C hS (m_X5_init z l hn0.1 hA0) (Nat.le_of_ble_eq_true rfl) hl.1 (Nat.le_of_ble_eq_true rfl) (by omega) (by omega) dX5_copy_12 (fun H1 locs h_12 hz_12 hS => ?_)
  obtain ⟨i1, i2, i3, i4⟩ := h_12
  rw [s0] at i1 i2 i3
  have hE2 : Ext H H1 := ⟨by omega, fun q h => by rw [i4 q (by omega) (by omega), hn0.2.2 q h]⟩
  have hq2 := hq.ext hE2
  refine lv_astore_n (lv' := [(1, _), (0, _)]) hx hb dX5_copy_15 rfl hl (by decide) rfl (fun ls hl => ?_)
  refine lv_aload_n hx hb dX5_copy_16 rfl (lv_at hl 0 rfl) ?_
  refine lv_aload_n hx hb dX5_copy_17 rfl (lv_at hl 1 rfl) ?_
  refine gf_X5_9 C hq2 rfl dX5_copy_18 ?_
  refine pf_X5_9 C i1 (Nat.le_of_ble_eq_true rfl) (nar_b hbu).1 (nar_b hbu).2 hS hA0 dX5_copy_21 (fun H1 locs hu hS => ?_)
  have hu1 := hu
  have s1 := hu1.2.1
  have l1 := i2.up hu1 (by omega)
  have hE3 : Ext H H1 := ⟨by omega, fun q h => by rw [hu1.2.2 q (by omega), hE2.2 q h]⟩
  have hq3 := hq.ext hE3
  refine lv_aload_n hx hb dX5_copy_24 rfl (lv_at hl 0 rfl) ?_
  refine lv_aload_n hx hb dX5_copy_25 rfl (lv_at hl 1 rfl) ?_
  refine gf_X5_32 C hq3 rfl dX5_copy_26 ?_
  refine pf_X5_32 C hu1.1 (Nat.le_of_ble_eq_true rfl) rfl rfl hS hA0 dX5_copy_29 (fun H1 locs hu hS => ?_)
  have s2 := hu.2.1
  have l2 := l1.up hu (by omega)
  have hE4 : Ext H H1 := ⟨by omega, fun q h => by rw [hu.2.2 q (by omega), hE3.2 q h]⟩
  have hcr := hu.1
  have hli : LsI z (H.size + 1) (H.size + 2) v 0 H1 := ⟨_, _, 0, l2, by omega, by omega, Or.inl ⟨rfl, rfl⟩⟩
  have hz4 : H.size + 2 ≤ H1.size := by omega
  generalize H1 = H4 at hE4 hcr hli hz4 hS ⊢
  refine W.cs (cells' := 2 + 0) (slots' := 8 + 34 * 0) (by omega) (by omega) ?_
  refine lv_iconst (v := 0) hx hb dX5_copy_32 (by decide) ?_
  refine lv_istore_n (lv' := [(2, _), (1, _), (0, _)]) hx hb dX5_copy_33 rfl hl (by decide) rfl (fun ls hl => ?_)
  have L34 : ∀ (k9 : Nat) (k : Nat) (H3 : Heap) (locs : List Loc) (ls : Array Slot), k ≤ n → n + 1 ≤ k + k9 → c1 z H.size (.inr (5, [.int ce, .int pe, .int bu, .int mi, .ref (H.size + 1)])) H3 → LsI z (H.size + 1) (H.size + 2) v k H3 → Ext H H3 → H.size + 2 ≤ H3.size → va_S (AA z) sS.heap H3 locs → lv_has ls 3 [(2, .int (nI k)), (1, .ref H.size), (0, .ref a)] → W pp l ev (RL 8 26 824) sS mM ag below meth cd H3 locs (2 + k) (8 + 34 * k) Q (F0 mM 34 ls []) := by
    intro k9
    induction k9 with
    | zero =>
      intro k H3 locs ls hk0 hk1 hcr hli hE hz hS hl
      omega
    | succ k9 ih =>
      intro k H3 locs ls hk0 hk1 hcr hli hE hz hS hl
      have hq := hq.ext hE
      have ho := ho.ext hE
      refine lv_iload_n hx hb dX5_copy_34 rfl (lv_at hl 0 rfl) ?_
      refine lv_aload_n hx hb dX5_copy_35 rfl (lv_at hl 2 rfl) ?_
      refine gf_X5_18 C hq rfl dX5_copy_36 ?_
      refine cv_X5_35 C ho hS (m_J2_size z l ho) (Nat.le_of_ble_eq_true rfl) hl.1 (Nat.le_of_ble_eq_true rfl) (by omega) (by omega) dX5_copy_39 (fun r_39 h_39 => ?_)
      subst h_39
      refine lv_icmp_ge (tgt := 70) hx hb dX5_copy_42 (by decide) (fun c_42 => ?_) (fun c_42 => ?_)
      · skip
        have hke : k = n := lp_end hk0 c_42 (by omega)
        subst hke
        refine lv_aload_n hx hb dX5_copy_70 rfl (lv_at hl 1 rfl) ?_
        exact hR _ _ (some _) _ _ _ _ dX5_copy_71 hS (by omega) (by omega) (⟨rfl, hcr, hli, hE⟩)
      · skip
        have hk : k < n := lp_in hk0 c_42 (by omega)
        have hea : 0 < cap ∧ c1 z e (aQ z cap (fI z v n)) H3 := by
          rcases hL with h | ⟨h1, h2⟩
          · omega
          · exact ⟨h1, h2.ext hE⟩
        have hvk := hv k hk
        obtain ⟨md5, e5, cap5, l5, b5, b6, hL5⟩ := hli
        have hS5 := hS
        refine lv_aload_n hx hb dX5_copy_45 rfl (lv_at hl 1 rfl) ?_
        refine gf_X5_18 C hcr rfl dX5_copy_46 ?_
        refine lv_aload_n hx hb dX5_copy_49 rfl (lv_at hl 2 rfl) ?_
        refine gf_X5_18 C hq rfl dX5_copy_50 ?_
        refine lv_iload_n hx hb dX5_copy_53 rfl (lv_at hl 0 rfl) ?_
        refine cv_X5_39 C ho hS (m_J2_get z l ho hea.2 hk hnc (by omega)) (Nat.le_of_ble_eq_true rfl) hl.1 (Nat.le_of_ble_eq_true rfl) (by omega) (by omega) dX5_copy_54 (fun r_54 h_54 => ?_)
        subst h_54
        rw [show fI z v n k = some (zi z (v k + 128)) from if_pos hk]
        refine va_castE hx hb C.1.2.2.2.1 (C.1.2.2.2.2 _ q725) (C.recvI hS (by omega)) dX5_copy_57 ?_
        refine cv_X5_45 C l5 hS (m_J2_add z l (f := fI z v k) l5 (Nat.le_succ_of_le hA0) (hL5.imp id (fun h => ⟨h.1, h.2.2.2⟩)) (fun h => by
    rcases hL5 with ⟨g, -⟩ | ⟨-, g, -⟩
    · omega
    · exact Nat.le_trans hA0 (by omega)) (by
    rcases hL5 with ⟨-, g⟩ | ⟨-, g, -⟩
    · intro h9
      have h8 : AA z (H.size + 1) := Nat.le_succ_of_le hA0
      rw [h9, g] at h8
      exact C.tDE.out h8
    · omega) (by omega) b5 b6 (fun i hi => if_neg (by omega)) (fun i hi y hy => by
    rw [show fI z v k i = some (zi z (v i + 128)) from if_pos hi] at hy
    cases hy
    exact Or.inr (Or.inr ⟨_, by have := hv i (by omega); omega, rfl⟩)) (Or.inr (Or.inr ⟨v k + 128, by omega, rfl⟩))) (Nat.le_of_ble_eq_true rfl) hl.1 (Nat.le_of_ble_eq_true rfl) (by omega) (by omega) dX5_copy_60 (fun r_60 H1 locs h_60 hz_60 hS => ?_)
        obtain ⟨-, e6, cap6, j1, j2, j3, j4, j5, j6⟩ := h_60
        rw [fI_up] at j4
        have hz6 : H3.size ≤ H1.size := hz_60
        have hne5 : ∀ q, q < H.size + 1 → q ≠ H.size + 1 ∧ (q ≠ e5 ∨ (e5 = zs z 0 ∧ cap5 = 0)) := fun q hq => ⟨by omega, by
          rcases hL5 with ⟨g1, g2⟩ | ⟨-, g, -⟩
          · exact Or.inr ⟨g2, g1⟩
          · exact Or.inl (by omega)⟩
        have hke : ∀ q, q < H.size + 1 → H1[q]? = H3[q]? := fun q hq => by
          rcases (hne5 q hq).2 with g | ⟨g1, g2⟩
          · exact j6 q (by omega) (by omega) g
          · by_cases g : q = e5
            · have h9 : ¬ AA z q := by rw [g, g1]; exact C.tDE.out
              have h8 : q < (zH z).size := Nat.not_le.mp h9
              rw [(C.2.2.1.S hS).2 q h8, (C.2.2.1.S hS5).2 q h8]
            · exact j6 q (by omega) (by omega) g
        have hE5 : Ext H H1 := ⟨by omega, fun q h => by rw [hke q (by omega), hE.2 q h]⟩
        have hcr5 := hcr.kept (hke _ (by omega))
        have hli5 : LsI z (H.size + 1) (H.size + 2) v (k + 1) H1 := ⟨_, e6, cap6, j1, j2, j3, Or.inr ⟨by omega, by
          rcases j5 with ⟨g1, g2, g3, -⟩ | ⟨g1, -⟩
          · rcases hL5 with ⟨g, -⟩ | ⟨-, g, -⟩
            · omega
            · rw [g1]; exact g
          · rw [g1]; exact hz, j4.lt, j4⟩⟩
        have hz5 : H.size + 2 ≤ H1.size := by omega
        refine lv_pop hx hb dX5_copy_63 rfl ?_
        refine lv_iinc (lv' := [(2, _), (1, _), (0, _)]) hx hb dX5_copy_64 hl (k := 0) rfl (v := nI (k + 1)) (nI_1 k) (by decide) rfl (fun ls hl => ?_)
        refine lv_goto (tgt := 34) hx hb dX5_copy_67 (by decide) ?_
        refine W.cs (cells' := 2 + (k + 1)) (slots' := 8 + 34 * (k + 1)) (by omega) (by omega) ?_
        exact ih (k + 1) _ _ _ (by omega) (by omega) hcr5 hli5 hE5 hz5 hS hl
  exact L34 (n + 1) 0 _ _ _ (by omega) (by omega) hcr hli hE4 hz4 hS (by rw [nI_0]; exact hl)

