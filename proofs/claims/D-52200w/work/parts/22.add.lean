set_option maxRecDepth 100000
section LA
variable {p : Program} {l : Launch} {e : Env} {R : Room} {s : State} {m : MethodId} {args : Array Value} {below : List Frame} {meth : Method} {c : Code} {H : Heap} {locs : List Loc} {cells slots : Nat} {Q : State → Prop}
variable {cc : ByteArray} {pc : Nat} {ls : Array Slot} {rest : List Value} {z : Zt} {a : Nat} {nL : Nat} {own : String}
theorem g_lalen {ea cap : Nat} {f : Nat → Option Nat} (C : CX z p s m args meth c cc nL own) (hS : va_S (AA z) s.heap H locs) (hL : (cap = 0 ∧ ea = zs z 0) ∨ (0 < cap ∧ c1 z ea (aQ z cap f) H)) (hdg : decode cc pc = .ok (.arraylength, 1))
    (kk : W p l e R s m args below meth c H locs cells slots Q (F0 m (pc + 1) ls (.int (nI cap) :: rest))) : W p l e R s m args below meth c H locs cells slots Q (F0 m pc ls (.ref ea :: rest)) := by
  rcases hL with ⟨rfl, rfl⟩ | ⟨h0, he⟩
  · exact g_talen C C.tDE hS hdg kk
  · exact g_qalen C he hdg kk
end LA
/-- a list behind 'add' -/
def AddR (z : Zt) (a e : Nat) (md : Int32) (n cap : Nat) (f : Nat → Option Nat) (x : Nat) (H H1 : Heap) : Prop := ∃ e' cap', c1 z a (.inr (2, [.int md, .ref e', .int (nI (n + 1))])) H1 ∧ n + 1 ≤ cap' ∧ cap' ≤ 34 ∧ c1 z e' (aQ z cap' (va_up f n (some x))) H1 ∧
  ((e' = e ∧ cap' = cap ∧ 0 < cap ∧ H1.size = H.size) ∨ (e' = H.size ∧ H1.size = H.size + 1)) ∧ ∀ q, q < H.size → q ≠ a → q ≠ e → H1[q]? = H[q]?

theorem clneq {z : Zt} {U : State} (h : GV z U) {i j : Nat} {A B : vw_C} (hi : clA[i]? = some A) (hj : clA[j]? = some B) (hAB : A.1 ≠ B.1) : z.1.1 i ≠ z.1.1 j := by
  intro e
  have h1 := (h.1.1 i A hi).2.1
  have h2 := (h.1.1 j B hj).2.1
  rw [e] at h1
  obtain ⟨k1, g1, g2⟩ := Vm.findClass_spec h1
  obtain ⟨k2, g3, g4⟩ := Vm.findClass_spec h2
  rw [g1] at g3
  cases g3
  exact hAB (g2.symm.trans g4)
theorem clne5 {z : Zt} {U : State} (h : GV z U) : ¬ z.1.1 5 = z.1.1 2 := clneq h (i := 5) (j := 2) rfl rfl (by decide)
theorem clne6 {z : Zt} {U : State} (h : GV z U) : ¬ z.1.1 6 = z.1.1 2 := clneq h (i := 6) (j := 2) rfl rfl (by decide)

set_option maxHeartbeats 4000000 in
theorem m_J2_add_2 (z : Zt) (l : Launch) {H : Heap} {a e n cap x : Nat} {md : Int32} {f : Nat → Option Nat} (hq : c1 z a (.inr (2, [.int md, .ref e, .int (nI n)])) H) (hA : AA z a) (hL : (cap = 0 ∧ e = zs z 0) ∨ (0 < cap ∧ c1 z e (aQ z cap f) H)) (hAe : 0 < cap → AA z e) (hne : a ≠ e) (hn : n ≤ 23) (hnc : n ≤ cap) (hc34 : cap ≤ 34) (hf : ∀ i, n ≤ i → f i = none) (hE : Els z H f n) (hx9 : El z H x) : Kv z l yJ2_add_2 cJ2_add_2 4 [.ref a, .ref x, .ref e, .int (nI n)] H 6 1 34 (fun H1 => AddR z a e md n cap f x H H1) := by
  refine en_Kv (own := RJ2) (by decide) rfl (Nat.le_of_ble_eq_true rfl) ?_
  intro ag pp ev sS mM below meth cd ls Q C hin hS hl hR
  have hx := C.1.1
  have hb := C.1.2.1
  have hl : lv_has ls 4 [(0, .ref a), (1, .ref x), (2, .ref e), (3, .int (nI n))] := hl
  refine lv_iload_n hx hb dJ2_add_2_0 rfl (lv_at hl 3 rfl) ?_
  refine lv_aload_n hx hb dJ2_add_2_1 rfl (lv_at hl 2 rfl) ?_
  refine g_lalen C hS hL dJ2_add_2_2 ?_
  refine lv_icmp_ne (tgt := 11) hx hb dJ2_add_2_3 (by decide) (fun c_3 => ?_) (fun c_3 => ?_)
  · skip
    have hlt : n < cap := Nat.lt_of_le_of_ne hnc (fun h => c_3 (by rw [h]))
    have he9 : c1 z e (aQ z cap f) H := by
      rcases hL with ⟨h, -⟩ | ⟨-, h⟩
      · omega
      · exact h
    have hq9 := hq
    have hx10 := hx9
    have hA9 := hAe (by omega)
    have hne9 := hne
    have hfin : ∀ H1, c1 z a (.inr (2, [.int md, .ref e, .int (nI (n + 1))])) H1 → c1 z e (aQ z cap (va_up f n (some x))) H1 → H1.size = H.size → (∀ q, q ≠ a → q ≠ e → H1[q]? = H[q]?) → AddR z a e md n cap f x H H1 := fun H1 g1 g2 g3 g4 => ⟨e, cap, g1, by omega, hc34, g2, Or.inl ⟨rfl, rfl, by omega, g3⟩, fun q _ h1 h2 => g4 q h1 h2⟩
    have hcb : cap < 1000 := by omega
    refine lv_aload_n hx hb dJ2_add_2_11 rfl (lv_at hl 2 rfl) ?_
    refine lv_iload_n hx hb dJ2_add_2_12 rfl (lv_at hl 3 rfl) ?_
    refine lv_aload_n hx hb dJ2_add_2_13 rfl (lv_at hl 1 rfl) ?_
    refine g_qast C he9 (hx10.any C hS) (vp_in_nI hlt (by omega)) hS hA9 dJ2_add_2_14 (fun H1 locs hu hS => ?_)
    have hu1 := hu
    rw [nI_clamp (by omega)] at hu1
    refine lv_aload_n hx hb dJ2_add_2_15 rfl (lv_at hl 0 rfl) ?_
    refine lv_iload_n hx hb dJ2_add_2_16 rfl (lv_at hl 3 rfl) ?_
    refine lv_iconst (v := 1) hx hb dJ2_add_2_17 (by decide) ?_
    refine lv_iadd hx hb dJ2_add_2_18 ?_
    rw [nI_1]
    refine pf_J2_48 C (hq9.up hu1 hne9) (Nat.le_of_ble_eq_true rfl) rfl rfl hS hA dJ2_add_2_19 (fun H1 locs hu hS => ?_)
    exact hR _ _ _ _ _ _ dJ2_add_2_22 hS (by omega) (by omega) (hfin _ hu.1 (hu1.1.up hu (Ne.symm hne9)) (by rw [hu.2.1, hu1.2.1]) (fun q h1 h2 => by rw [hu.2.2 q h1, hu1.2.2 q h2]))
  · skip
    have hcap : n = cap := (nI_eq (by omega) (by omega)).mp c_3
    refine lv_aload_n hx hb dJ2_add_2_6 rfl (lv_at hl 0 rfl) ?_
    refine cv_J2_129 C hq hS (m_J2_grow z l hq hA hL hcap hn hE) (Nat.le_of_ble_eq_true rfl) hl.1 (Nat.le_of_ble_eq_true rfl) (by omega) (by omega) dJ2_add_2_7 (fun r_7 H1 locs h_7 hz_7 hS => ?_)
    obtain ⟨rfl, hg1, hg2, hg3, hg4⟩ := h_7
    have hlt1 := hq.lt
    have hel : e < H.size ∨ True := Or.inr trivial
    have hff : (fun i => if i < cap then f i else none) = f := by
      funext i
      split
      · rfl
      · exact (hf i (by omega)).symm
    rw [hff] at hg2
    have he9 := hg2
    have hq9 := hg3
    have hx10 : El z H1 x := by
      rcases hx9 with ⟨fs, h⟩ | ⟨fs, h⟩ | h
      · exact Or.inl ⟨fs, h.kept (hg4 x h.lt (fun hh => by subst hh; obtain ⟨r1, k1, cell1, j1, j2, -⟩ := h; obtain ⟨r2, k2, cell2, i1, i2, -⟩ := hq; rw [j1] at i1; cases i1; exact absurd (j2.symm.trans i2) (clne5 C.2.1)))⟩
      · exact Or.inr (Or.inl ⟨fs, h.kept (hg4 x h.lt (fun hh => by subst hh; obtain ⟨r1, k1, cell1, j1, j2, -⟩ := h; obtain ⟨r2, k2, cell2, i1, i2, -⟩ := hq; rw [j1] at i1; cases i1; exact absurd (j2.symm.trans i2) (clne6 C.2.1)))⟩)
      · exact Or.inr (Or.inr h)
    have hA9 : AA z H.size := Nat.le_trans hA (Nat.le_of_lt hlt1)
    have hne9 : a ≠ H.size := by omega
    have hlt : n < gN cap := by rw [hcap]; exact gN_lt
    have hg34 : gN cap ≤ 34 := gN_le (by omega)
    have hfin : ∀ H2, c1 z a (.inr (2, [.int md, .ref H.size, .int (nI (n + 1))])) H2 → c1 z H.size (aQ z (gN cap) (va_up f n (some x))) H2 → H2.size = H1.size → (∀ q, q ≠ a → q ≠ H.size → H2[q]? = H1[q]?) → AddR z a e md n cap f x H H2 := fun H2 g1 g2 g3 g4 => ⟨H.size, gN cap, g1, by omega, hg34, g2, Or.inr ⟨rfl, by omega⟩, fun q h0 h1 h2 => by rw [g4 q h1 (by omega), hg4 q h0 h1]⟩
    have hcb : gN cap < 1000 := by omega
    refine lv_astore_n (lv' := [(2, _), (0, _), (1, _), (3, _)]) hx hb dJ2_add_2_10 rfl hl (by decide) rfl (fun ls hl => ?_)
    refine lv_aload_n hx hb dJ2_add_2_11 rfl (lv_at hl 0 rfl) ?_
    refine lv_iload_n hx hb dJ2_add_2_12 rfl (lv_at hl 3 rfl) ?_
    refine lv_aload_n hx hb dJ2_add_2_13 rfl (lv_at hl 2 rfl) ?_
    refine g_qast C he9 (hx10.any C hS) (vp_in_nI hlt (by omega)) hS hA9 dJ2_add_2_14 (fun H1 locs hu hS => ?_)
    have hu1 := hu
    rw [nI_clamp (by omega)] at hu1
    refine lv_aload_n hx hb dJ2_add_2_15 rfl (lv_at hl 1 rfl) ?_
    refine lv_iload_n hx hb dJ2_add_2_16 rfl (lv_at hl 3 rfl) ?_
    refine lv_iconst (v := 1) hx hb dJ2_add_2_17 (by decide) ?_
    refine lv_iadd hx hb dJ2_add_2_18 ?_
    rw [nI_1]
    refine pf_J2_48 C (hq9.up hu1 hne9) (Nat.le_of_ble_eq_true rfl) rfl rfl hS hA dJ2_add_2_19 (fun H1 locs hu hS => ?_)
    exact hR _ _ _ _ _ _ dJ2_add_2_22 hS (by omega) (by omega) (hfin _ hu.1 (hu1.1.up hu (Ne.symm hne9)) (by rw [hu.2.1, hu1.2.1]) (fun q h1 h2 => by rw [hu.2.2 q h1, hu1.2.2 q h2]))

set_option maxHeartbeats 4000000 in
theorem m_J2_add (z : Zt) (l : Launch) {H : Heap} {a e n cap x : Nat} {md : Int32} {f : Nat → Option Nat} (hq : c1 z a (.inr (2, [.int md, .ref e, .int (nI n)])) H) (hA : AA z a) (hL : (cap = 0 ∧ e = zs z 0) ∨ (0 < cap ∧ c1 z e (aQ z cap f) H)) (hAe : 0 < cap → AA z e) (hne : a ≠ e) (hn : n ≤ 23) (hnc : n ≤ cap) (hc34 : cap ≤ 34) (hf : ∀ i, n ≤ i → f i = none) (hE : Els z H f n) (hx9 : El z H x) : Ki z l yJ2_add cJ2_add 2 .boolean [.ref a, .ref x] H 7 1 34 (fun r H1 => r = 1 ∧ AddR z a e (md + 1) n cap f x H H1) := by
  refine en_Ki (own := RJ2) (by decide) rfl (Nat.le_of_ble_eq_true rfl) ?_
  intro ag pp ev sS mM below meth cd ls Q C hS hl hR
  have hx := C.1.1
  have hb := C.1.2.1
  have hl : lv_has ls 2 [(0, .ref a), (1, .ref x)] := hl
  refine lv_aload_n hx hb dJ2_add_0 rfl (lv_at hl 0 rfl) ?_
  refine lv_dup hx hb dJ2_add_1 rfl ?_
  refine gf_J2_63 C hq rfl dJ2_add_2 ?_
  refine lv_iconst (v := 1) hx hb dJ2_add_5 (by decide) ?_
  refine lv_iadd hx hb dJ2_add_6 ?_
  refine pf_J2_63 C hq (Nat.le_of_ble_eq_true rfl) rfl rfl hS hA dJ2_add_7 (fun H1 locs hu hS => ?_)
  have hsz := hu.2.1
  have hL1 : (cap = 0 ∧ e = zs z 0) ∨ (0 < cap ∧ c1 z e (aQ z cap f) H1) := by
    rcases hL with h | ⟨h0, h⟩
    · exact Or.inl h
    · exact Or.inr ⟨h0, h.up hu (Ne.symm hne)⟩
  have hEl : ∀ y, El z H y → El z H1 y := fun y hy => by
    rcases hy with ⟨fs, h⟩ | ⟨fs, h⟩ | h
    · exact Or.inl ⟨fs, h.up hu (fun hh => by subst hh; obtain ⟨r1, k1, cell1, j1, j2, -⟩ := h; obtain ⟨r2, k2, cell2, i1, i2, -⟩ := hq; rw [j1] at i1; cases i1; exact absurd (j2.symm.trans i2) (clne5 C.2.1))⟩
    · exact Or.inr (Or.inl ⟨fs, h.up hu (fun hh => by subst hh; obtain ⟨r1, k1, cell1, j1, j2, -⟩ := h; obtain ⟨r2, k2, cell2, i1, i2, -⟩ := hq; rw [j1] at i1; cases i1; exact absurd (j2.symm.trans i2) (clne6 C.2.1))⟩)
    · exact Or.inr (Or.inr h)
  have hq1 := hu.1
  refine lv_aload_n hx hb dJ2_add_10 rfl (lv_at hl 0 rfl) ?_
  refine lv_aload_n hx hb dJ2_add_11 rfl (lv_at hl 1 rfl) ?_
  refine lv_aload_n hx hb dJ2_add_12 rfl (lv_at hl 0 rfl) ?_
  refine gf_J2_9 C hq1 rfl dJ2_add_13 ?_
  refine lv_aload_n hx hb dJ2_add_16 rfl (lv_at hl 0 rfl) ?_
  refine gf_J2_48 C hq1 rfl dJ2_add_17 ?_
  refine cv_J2_131 C hq1 hS (m_J2_add_2 z l hq1 hA hL1 hAe hne hn hnc hc34 hf (fun i hi y hy => hEl y (hE i hi y hy)) (hEl x hx9)) (Nat.le_of_ble_eq_true rfl) hl.1 (Nat.le_of_ble_eq_true rfl) (by omega) (by omega) dJ2_add_20 (fun H1 locs h_20 hz_20 hS => ?_)
  refine lv_iconst (v := 1) hx hb dJ2_add_23 (by decide) ?_
  exact hR _ _ _ _ _ _ _ dJ2_add_24 rfl hS (by omega) (by omega) (by
    obtain ⟨e', cap', g1, g2, g3, g4, g5, g6⟩ := h_20
    exact ⟨rfl, e', cap', g1, g2, g3, g4, by rw [hsz] at g5; exact g5, fun q h0 h1 h2 => by rw [g6 q (by omega) h1 h2, hu.2.2 q h1]⟩)

