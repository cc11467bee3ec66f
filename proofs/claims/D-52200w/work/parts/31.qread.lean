set_option maxRecDepth 100000
section LS31
variable {p : Program} {l : Launch} {e : Env} {R : Room} {s : State} {m : MethodId} {args : Array Value} {below : List Frame} {meth : Method} {c : Code} {H : Heap} {locs : List Loc} {cells slots : Nat} {Q : State → Prop} {pc : Nat} {ls : Array Slot} {rest : List Value}
theorem lv_seti {x y : Int32} (h : x = y) (k : W p l e R s m args below meth c H locs cells slots Q (F0 m pc ls (.int y :: rest))) : W p l e R s m args below meth c H locs cells slots Q (F0 m pc ls (.int x :: rest)) := h ▸ k
theorem lv_setl {x y : Int64} (h : x = y) (k : W p l e R s m args below meth c H locs cells slots Q (F0 m pc ls (.long y :: rest))) : W p l e R s m args below meth c H locs cells slots Q (F0 m pc ls (.long x :: rest)) := h ▸ k
end LS31
theorem or_t (A : Bool) : bI A ||| 1 = bI (A || true) := by cases A <;> decide
theorem or_f (A : Bool) : bI A ||| 0 = bI (A || false) := by cases A <;> decide
theorem bI_f {b : Bool} (h : bI b = 0) : b = false := by cases b; rfl; exact absurd h (by decide)
theorem bI_t {b : Bool} (h : ¬ bI b = 0) : b = true := by cases b; exact absurd rfl h; rfl
theorem lp_end {k n : Nat} (h : k ≤ n) (c : nI n ≤ nI k) (hn : n < 2 ^ 30) : k = n := Nat.le_antisymm h (Nat.not_lt.mp (fun g => absurd c (nI_ge g (by omega))))
theorem lp_in {k n : Nat} (h : k ≤ n) (c : ¬ nI n ≤ nI k) (hn : n < 2 ^ 30) : k < n := Nat.not_le.mp (fun g => c (nI_le g (by omega)))
theorem m_getC (z : Zt) (l : Launch) {H : Heap} {F : Nat → Prop} {ad : Nat → Nat → Nat} {st : St} {gh : Gh} (hQ : QW z F ad st gh H) {k : Nat} (hk : k < nC st) : Rq z l yJ2_get cJ2_get 2 (.object "java/lang/Object") [.ref (ad 2 0), .int (nI k)] H 3 (fun r => r = some (ad 4 k)) := by
  have h := m_J2_get z l hQ.lc (hQ.ea (i := 0) (by omega) (hQ.c0 hk)) hk (hQ.cap (i := 0) (by omega)).1 (by have := (hQ.cap (i := 0) (by omega)).2; omega)
  rw [QW.el0 hk] at h
  exact h
theorem m_getP (z : Zt) (l : Launch) {H : Heap} {F : Nat → Prop} {ad : Nat → Nat → Nat} {st : St} {gh : Gh} (hQ : QW z F ad st gh H) {k : Nat} (hk : k < nP st) : Rq z l yJ2_get cJ2_get 2 (.object "java/lang/Object") [.ref (ad 2 1), .int (nI k)] H 3 (fun r => r = some (ad 5 k)) := by
  have h := m_J2_get z l hQ.lp (hQ.ea (i := 1) (by omega) (hQ.c1' hk)) hk (hQ.cap (i := 1) (by omega)).1 (by have := (hQ.cap (i := 1) (by omega)).2; omega)
  rw [QW.el1 hk] at h
  exact h
theorem m_getO (z : Zt) (l : Launch) {H : Heap} {F : Nat → Prop} {ad : Nat → Nat → Nat} {st : St} {gh : Gh} (hQ : QW z F ad st gh H) {i k : Nat} (hi : i < nC st) (hk : k < mC st i) : Rq z l yJ2_get cJ2_get 2 (.object "java/lang/Object") [.ref (ad 2 (i + 2)), .int (nI k)] H 3 (fun r => r = some (zi z (cN (st 5 (24 * i + k)) + 128))) := by
  have hcap := hQ.cap (i := i + 2) (by omega)
  have hc1 : mC st i ≤ gh.2 (i + 2) := hcap.1
  have h := m_J2_get z l (hQ.lo hi) (hQ.ea (i := i + 2) (by omega) (by omega)) hk hcap.1 (by omega)
  rw [QW.el2 hk] at h
  exact h

set_option maxHeartbeats 4000000 in
theorem m_X5_isThere (z : Zt) (l : Launch) {H : Heap} {a o : Nat} {ce pe bu mi : Int32} (hq : c1 z a (.inr (5, [.int ce, .int pe, .int bu, .int mi, .ref o])) H) : Ri z l yX5_isThere cX5_isThere 1 .boolean [.ref a] H 1 (fun r => r = bI (decide (0 < pe))) := by
  refine en_Ri (own := RX5) (by decide) rfl (Nat.le_of_ble_eq_true rfl) ?_
  intro ag pp ev sS mM below meth cd ls Q C hS hl hR
  have hx := C.1.1
  have hb := C.1.2.1
  have hl : lv_has ls 1 [(0, .ref a)] := hl
  refine lv_aload_n hx hb dX5_isThere_0 rfl (lv_at hl 0 rfl) ?_
  refine gf_X5_26 C hq rfl dX5_isThere_1 ?_
  refine lv_if_le (tgt := 11) hx hb dX5_isThere_4 (by decide) (fun c_4 => ?_) (fun c_4 => ?_)
  · skip
    have hd : decide (0 < pe) = false := decide_eq_false (Int32.not_lt.mpr c_4)
    refine lv_iconst (v := 0) hx hb dX5_isThere_11 (by decide) ?_
    exact hR _ _ _ dX5_isThere_12 rfl (by rw [hd]; rfl)
  · skip
    have hd : decide (0 < pe) = true := decide_eq_true (Int32.not_le.mp c_4)
    refine lv_iconst (v := 1) hx hb dX5_isThere_7 (by decide) ?_
    refine lv_goto (tgt := 12) hx hb dX5_isThere_8 (by decide) ?_
    exact hR _ _ _ dX5_isThere_12 rfl (by rw [hd]; rfl)

set_option maxHeartbeats 4000000 in
theorem m_X5_isSeenFrom (z : Zt) (l : Launch) {H : Heap} {a o : Nat} {ce pe bu mi : Int32} (hq : c1 z a (.inr (5, [.int ce, .int pe, .int bu, .int mi, .ref o])) H) : Ri z l yX5_isSeenFrom cX5_isSeenFrom 1 .int [.ref a] H 1 (fun r => r = if bu = 0 then 1 else 4) := by
  refine en_Ri (own := RX5) (by decide) rfl (Nat.le_of_ble_eq_true rfl) ?_
  intro ag pp ev sS mM below meth cd ls Q C hS hl hR
  have hx := C.1.1
  have hb := C.1.2.1
  have hl : lv_has ls 1 [(0, .ref a)] := hl
  refine lv_aload_n hx hb dX5_isSeenFrom_0 rfl (lv_at hl 0 rfl) ?_
  refine gf_X5_9 C hq rfl dX5_isSeenFrom_1 ?_
  refine lv_if_eq (tgt := 11) hx hb dX5_isSeenFrom_4 (by decide) (fun c_4 => ?_) (fun c_4 => ?_)
  · skip
    refine lv_iconst (v := 1) hx hb dX5_isSeenFrom_11 (by decide) ?_
    exact hR _ _ _ dX5_isSeenFrom_12 rfl (by simp [c_4])
  · skip
    refine lv_iconst (v := 4) hx hb dX5_isSeenFrom_7 (by decide) ?_
    refine lv_goto (tgt := 12) hx hb dX5_isSeenFrom_8 (by decide) ?_
    exact hR _ _ _ dX5_isSeenFrom_12 rfl (by simp [c_4])

set_option maxHeartbeats 4000000 in
theorem m_X6_direction (z : Zt) (l : Launch) {H : Heap} {a ra n : Nat} {ce nx : Int32} {f : Nat → Int32} (hq : c1 z a (.inr (6, [.int ce, .ref ra, .int nx])) H) (hr : c1 z ra (aI z n f) H) (hin : vp_in nx n) : Ri z l yX6_direction cX6_direction 1 .int [.ref a] H 1 (fun r => r = f (cN nx)) := by
  refine en_Ri (own := RX6) (by decide) rfl (Nat.le_of_ble_eq_true rfl) ?_
  intro ag pp ev sS mM below meth cd ls Q C hS hl hR
  have hx := C.1.1
  have hb := C.1.2.1
  have hl : lv_has ls 1 [(0, .ref a)] := hl
  refine lv_aload_n hx hb dX6_direction_0 rfl (lv_at hl 0 rfl) ?_
  refine gf_X6_13 C hq rfl dX6_direction_1 ?_
  refine lv_aload_n hx hb dX6_direction_4 rfl (lv_at hl 0 rfl) ?_
  refine gf_X6_20 C hq rfl dX6_direction_5 ?_
  refine g_iald C hr hin dX6_direction_8 ?_
  exact hR _ _ _ dX6_direction_9 rfl (rfl)

set_option maxHeartbeats 4000000 in
theorem m_X6_goOn (z : Zt) (l : Launch) {H : Heap} {a ra n : Nat} {ce nx : Int32} {f : Nat → Int32} (hq : c1 z a (.inr (6, [.int ce, .ref ra, .int nx])) H) (hr : c1 z ra (aI z n f) H) (hA : AA z a) (h0 : ¬ nI n = 0) : Kv z l yX6_goOn cX6_goOn 1 [.ref a] H 1 0 0 (fun H1 => Up z a (.inr (6, [.int ce, .ref ra, .int (nx + 1 - (nx + 1) / nI n * nI n)])) H H1) := by
  refine en_Kv (own := RX6) (by decide) rfl (Nat.le_of_ble_eq_true rfl) ?_
  intro ag pp ev sS mM below meth cd ls Q C hin hS hl hR
  have hx := C.1.1
  have hb := C.1.2.1
  have hl : lv_has ls 1 [(0, .ref a)] := hl
  refine lv_aload_n hx hb dX6_goOn_0 rfl (lv_at hl 0 rfl) ?_
  refine lv_aload_n hx hb dX6_goOn_1 rfl (lv_at hl 0 rfl) ?_
  refine gf_X6_20 C hq rfl dX6_goOn_2 ?_
  refine lv_iconst (v := 1) hx hb dX6_goOn_5 (by decide) ?_
  refine lv_iadd hx hb dX6_goOn_6 ?_
  refine lv_aload_n hx hb dX6_goOn_7 rfl (lv_at hl 0 rfl) ?_
  refine gf_X6_13 C hq rfl dX6_goOn_8 ?_
  refine g_ialen C hr dX6_goOn_11 ?_
  refine lv_irem hx hb dX6_goOn_12 h0 ?_
  refine pf_X6_20 C hq (Nat.le_of_ble_eq_true rfl) rfl rfl hS hA dX6_goOn_13 (fun H1 locs hu hS => ?_)
  exact hR _ _ _ _ _ _ dX6_goOn_16 hS (by omega) (by omega) (hu)

set_option maxHeartbeats 4000000 in
theorem m_X2_isFree (z : Zt) (l : Launch) {H : Heap} {F : Nat → Prop} {ad : Nat → Nat → Nat} {st : St} {gh : Gh} (hQ : QW z F ad st gh H) {x : Int32} (hx9 : Cl x) : Ri z l yX2_isFree cX2_isFree 2 .boolean [.ref (ad 0 0), .int x] H 1 (fun r => r = bI (frB st x)) := by
  refine en_Ri (own := RX2) (by decide) rfl (Nat.le_of_ble_eq_true rfl) ?_
  intro ag pp ev sS mM below meth cd ls Q C hS hl hR
  have hx := C.1.1
  have hb := C.1.2.1
  have hl : lv_has ls 2 [(0, .ref (ad 0 0)), (1, .int x)] := hl
  refine lv_iload_n hx hb dX2_isFree_0 rfl (lv_at hl 1 rfl) ?_
  refine lv_iconst (v := (-1)) hx hb dX2_isFree_1 (by decide) ?_
  refine lv_icmp_eq (tgt := 18) hx hb dX2_isFree_2 (by decide) (fun c_2 => ?_) (fun c_2 => ?_)
  · skip
    refine lv_iconst (v := 0) hx hb dX2_isFree_18 (by decide) ?_
    exact hR _ _ _ dX2_isFree_19 rfl (by first | (simp [frB, bI, cN, c_2]; done) | (simp [frB, bI, cN, c_2, c_11]; done))
  · skip
    have hb9 : Bd x 108 := hx9.resolve_left c_2
    refine lv_aload_n hx hb dX2_isFree_5 rfl (lv_at hl 0 rfl) ?_
    refine gf_X2_9 C hQ.q rfl dX2_isFree_6 ?_
    refine lv_iload_n hx hb dX2_isFree_9 rfl (lv_at hl 1 rfl) ?_
    refine g_iald C hQ.cs (hb9.in (by omega) (by omega)) dX2_isFree_10 ?_
    refine lv_if_ne (tgt := 18) hx hb dX2_isFree_11 (by decide) (fun c_11 => ?_) (fun c_11 => ?_)
    · skip
      refine lv_iconst (v := 0) hx hb dX2_isFree_18 (by decide) ?_
      exact hR _ _ _ dX2_isFree_19 rfl (by first | (simp [frB, bI, cN, c_2]; done) | (simp [frB, bI, cN, c_2, c_11]; done))
    · skip
      refine lv_iconst (v := 1) hx hb dX2_isFree_14 (by decide) ?_
      refine lv_goto (tgt := 19) hx hb dX2_isFree_15 (by decide) ?_
      exact hR _ _ _ dX2_isFree_19 rfl (by first | (simp [frB, bI, cN, c_2]; done) | (simp [frB, bI, cN, c_2, c_11]; done))

set_option maxHeartbeats 4000000 in
theorem m_X2_isLane (z : Zt) (l : Launch) {H : Heap} {F : Nat → Prop} {ad : Nat → Nat → Nat} {st : St} {gh : Gh} (hQ : QW z F ad st gh H) {x : Int32} (hx9 : Cl x) : Ri z l yX2_isLane cX2_isLane 2 .boolean [.ref (ad 0 0), .int x] H 1 (fun r => r = bI (laB st x)) := by
  refine en_Ri (own := RX2) (by decide) rfl (Nat.le_of_ble_eq_true rfl) ?_
  intro ag pp ev sS mM below meth cd ls Q C hS hl hR
  have hx := C.1.1
  have hb := C.1.2.1
  have hl : lv_has ls 2 [(0, .ref (ad 0 0)), (1, .int x)] := hl
  refine lv_iload_n hx hb dX2_isLane_0 rfl (lv_at hl 1 rfl) ?_
  refine lv_iconst (v := (-1)) hx hb dX2_isLane_1 (by decide) ?_
  refine lv_icmp_eq (tgt := 19) hx hb dX2_isLane_2 (by decide) (fun c_2 => ?_) (fun c_2 => ?_)
  · skip
    refine lv_iconst (v := 0) hx hb dX2_isLane_19 (by decide) ?_
    exact hR _ _ _ dX2_isLane_20 rfl (by first | (simp [laB, bI, cN, c_2]; done) | (simp [laB, bI, cN, c_2, c_12]; done))
  · skip
    have hb9 : Bd x 108 := hx9.resolve_left c_2
    refine lv_aload_n hx hb dX2_isLane_5 rfl (lv_at hl 0 rfl) ?_
    refine gf_X2_9 C hQ.q rfl dX2_isLane_6 ?_
    refine lv_iload_n hx hb dX2_isLane_9 rfl (lv_at hl 1 rfl) ?_
    refine g_iald C hQ.cs (hb9.in (by omega) (by omega)) dX2_isLane_10 ?_
    refine lv_iconst (v := (-1)) hx hb dX2_isLane_11 (by decide) ?_
    refine lv_icmp_eq (tgt := 19) hx hb dX2_isLane_12 (by decide) (fun c_12 => ?_) (fun c_12 => ?_)
    · skip
      refine lv_iconst (v := 0) hx hb dX2_isLane_19 (by decide) ?_
      exact hR _ _ _ dX2_isLane_20 rfl (by first | (simp [laB, bI, cN, c_2]; done) | (simp [laB, bI, cN, c_2, c_12]; done))
    · skip
      refine lv_iconst (v := 1) hx hb dX2_isLane_15 (by decide) ?_
      refine lv_goto (tgt := 20) hx hb dX2_isLane_16 (by decide) ?_
      exact hR _ _ _ dX2_isLane_20 rfl (by first | (simp [laB, bI, cN, c_2]; done) | (simp [laB, bI, cN, c_2, c_12]; done))

set_option maxHeartbeats 4000000 in
theorem m_X2_people (z : Zt) (l : Launch) {H : Heap} {F : Nat → Prop} {ad : Nat → Nat → Nat} {st : St} {gh : Gh} (hQ : QW z F ad st gh H) : Ri z l yX2_people cX2_people 3 .int [.ref (ad 0 0)] H 4 (fun r => r = sumTo (st 2) (nC st)) := by
  refine en_Ri (own := RX2) (by decide) rfl (Nat.le_of_ble_eq_true rfl) ?_
  intro ag pp ev sS mM below meth cd ls Q C hS hl hR
  have hx := C.1.1
  have hb := C.1.2.1
  have hl : lv_has ls 3 [(0, .ref (ad 0 0))] := hl
  refine lv_iconst (v := 0) hx hb dX2_people_0 (by decide) ?_
  refine lv_istore_n (lv' := [(1, _), (0, _)]) hx hb dX2_people_1 rfl hl (by decide) rfl (fun ls hl => ?_)
  refine lv_iconst (v := 0) hx hb dX2_people_2 (by decide) ?_
  refine lv_istore_n (lv' := [(2, _), (1, _), (0, _)]) hx hb dX2_people_3 rfl hl (by decide) rfl (fun ls hl => ?_)
  have L4 : ∀ (k9 : Nat) (k : Nat) (ls : Array Slot), k ≤ nC st → nC st + 1 ≤ k + k9 → lv_has ls 3 [(2, .int (nI k)), (1, .int (sumTo (st 2) k)), (0, .ref (ad 0 0))] → W pp l ev (RL 4 0 0) sS mM ag below meth cd H [] 0 0 Q (F0 mM 4 ls []) := by
    intro k9
    induction k9 with
    | zero =>
      intro k ls hk0 hk1 hl
      omega
    | succ k9 ih =>
      intro k ls hk0 hk1 hl
      refine lv_iload_n hx hb dX2_people_4 rfl (lv_at hl 0 rfl) ?_
      refine lv_aload_n hx hb dX2_people_5 rfl (lv_at hl 2 rfl) ?_
      refine gf_X2_18 C hQ.q rfl dX2_people_6 ?_
      refine cv_X2_36 C hQ.lc hS (m_J2_size z l hQ.lc) (Nat.le_of_ble_eq_true rfl) hl.1 (Nat.le_of_ble_eq_true rfl) (by omega) (by omega) dX2_people_9 (fun r_9 h_9 => ?_)
      subst h_9
      refine lv_icmp_ge (tgt := 38) hx hb dX2_people_12 (by decide) (fun c_12 => ?_) (fun c_12 => ?_)
      · skip
        have hke : k = nC st := lp_end hk0 c_12 (by have := hQ.nCi; omega)
        refine lv_iload_n hx hb dX2_people_38 rfl (lv_at hl 1 rfl) ?_
        exact hR _ _ _ dX2_people_39 rfl (by rw [hke])
      · skip
        have hk : k < nC st := lp_in hk0 c_12 (by have := hQ.nCi; omega)
        refine lv_iload_n hx hb dX2_people_15 rfl (lv_at hl 1 rfl) ?_
        refine lv_aload_n hx hb dX2_people_16 rfl (lv_at hl 2 rfl) ?_
        refine gf_X2_18 C hQ.q rfl dX2_people_17 ?_
        refine lv_iload_n hx hb dX2_people_20 rfl (lv_at hl 0 rfl) ?_
        refine cv_X2_40 C hQ.lc hS (m_getC z l hQ hk) (Nat.le_of_ble_eq_true rfl) hl.1 (Nat.le_of_ble_eq_true rfl) (by omega) (by omega) dX2_people_21 (fun r_21 h_21 => ?_)
        subst h_21
        refine va_castE hx hb C.1.2.2.2.1 (C.1.2.2.2.2 _ q174) ((hQ.c hk).recv C.2.1 rfl) dX2_people_24 ?_
        refine gf_X2_79 C (hQ.c hk) rfl dX2_people_27 ?_
        refine lv_iadd hx hb dX2_people_30 ?_
        refine lv_istore_n (lv' := [(1, _), (2, _), (0, _)]) hx hb dX2_people_31 rfl hl (by decide) rfl (fun ls hl => ?_)
        refine lv_iinc (lv' := [(2, _), (1, _), (0, _)]) hx hb dX2_people_32 hl (k := 1) rfl (v := nI (k + 1)) (nI_1 k) (by decide) rfl (fun ls hl => ?_)
        refine lv_goto (tgt := 4) hx hb dX2_people_35 (by decide) ?_
        exact ih (k + 1) _ (by omega) (by omega) hl
  exact L4 (nC st + 1) 0 _ (by omega) (by omega) (by rw [nI_0]; exact hl)

set_option maxHeartbeats 4000000 in
theorem m_X2_crowdsThere (z : Zt) (l : Launch) {H : Heap} {F : Nat → Prop} {ad : Nat → Nat → Nat} {st : St} {gh : Gh} (hQ : QW z F ad st gh H) : Ri z l yX2_crowdsThere cX2_crowdsThere 3 .int [.ref (ad 0 0)] H 4 (fun r => r = sumTo (fun c => bI (decide (0 < st 2 c))) (nC st)) := by
  refine en_Ri (own := RX2) (by decide) rfl (Nat.le_of_ble_eq_true rfl) ?_
  intro ag pp ev sS mM below meth cd ls Q C hS hl hR
  have hx := C.1.1
  have hb := C.1.2.1
  have hl : lv_has ls 3 [(0, .ref (ad 0 0))] := hl
  refine lv_iconst (v := 0) hx hb dX2_crowdsThere_0 (by decide) ?_
  refine lv_istore_n (lv' := [(1, _), (0, _)]) hx hb dX2_crowdsThere_1 rfl hl (by decide) rfl (fun ls hl => ?_)
  refine lv_iconst (v := 0) hx hb dX2_crowdsThere_2 (by decide) ?_
  refine lv_istore_n (lv' := [(2, _), (1, _), (0, _)]) hx hb dX2_crowdsThere_3 rfl hl (by decide) rfl (fun ls hl => ?_)
  have L4 : ∀ (k9 : Nat) (k : Nat) (ls : Array Slot), k ≤ nC st → nC st + 1 ≤ k + k9 → lv_has ls 3 [(2, .int (nI k)), (1, .int (sumTo (fun c => bI (decide (0 < st 2 c))) k)), (0, .ref (ad 0 0))] → W pp l ev (RL 4 0 0) sS mM ag below meth cd H [] 0 0 Q (F0 mM 4 ls []) := by
    intro k9
    induction k9 with
    | zero =>
      intro k ls hk0 hk1 hl
      omega
    | succ k9 ih =>
      intro k ls hk0 hk1 hl
      refine lv_iload_n hx hb dX2_crowdsThere_4 rfl (lv_at hl 0 rfl) ?_
      refine lv_aload_n hx hb dX2_crowdsThere_5 rfl (lv_at hl 2 rfl) ?_
      refine gf_X2_18 C hQ.q rfl dX2_crowdsThere_6 ?_
      refine cv_X2_36 C hQ.lc hS (m_J2_size z l hQ.lc) (Nat.le_of_ble_eq_true rfl) hl.1 (Nat.le_of_ble_eq_true rfl) (by omega) (by omega) dX2_crowdsThere_9 (fun r_9 h_9 => ?_)
      subst h_9
      refine lv_icmp_ge (tgt := 46) hx hb dX2_crowdsThere_12 (by decide) (fun c_12 => ?_) (fun c_12 => ?_)
      · skip
        have hke : k = nC st := lp_end hk0 c_12 (by have := hQ.nCi; omega)
        refine lv_iload_n hx hb dX2_crowdsThere_46 rfl (lv_at hl 1 rfl) ?_
        exact hR _ _ _ dX2_crowdsThere_47 rfl (by rw [hke])
      · skip
        have hk : k < nC st := lp_in hk0 c_12 (by have := hQ.nCi; omega)
        refine lv_iload_n hx hb dX2_crowdsThere_15 rfl (lv_at hl 1 rfl) ?_
        refine lv_aload_n hx hb dX2_crowdsThere_16 rfl (lv_at hl 2 rfl) ?_
        refine gf_X2_18 C hQ.q rfl dX2_crowdsThere_17 ?_
        refine lv_iload_n hx hb dX2_crowdsThere_20 rfl (lv_at hl 0 rfl) ?_
        refine cv_X2_40 C hQ.lc hS (m_getC z l hQ hk) (Nat.le_of_ble_eq_true rfl) hl.1 (Nat.le_of_ble_eq_true rfl) (by omega) (by omega) dX2_crowdsThere_21 (fun r_21 h_21 => ?_)
        subst h_21
        refine va_castE hx hb C.1.2.2.2.1 (C.1.2.2.2.2 _ q174) ((hQ.c hk).recv C.2.1 rfl) dX2_crowdsThere_24 ?_
        refine cv_X2_59 C (hQ.c hk) hS (m_X5_isThere z l (hQ.c hk)) (Nat.le_of_ble_eq_true rfl) hl.1 (Nat.le_of_ble_eq_true rfl) (by omega) (by omega) dX2_crowdsThere_27 (fun r_27 h_27 => ?_)
        subst h_27
        refine lv_if_eq (tgt := 37) hx hb dX2_crowdsThere_30 (by decide) (fun c_30 => ?_) (fun c_30 => ?_)
        · skip
          have hv := bI_f c_30
          refine lv_iconst (v := 0) hx hb dX2_crowdsThere_37 (by decide) ?_
          refine lv_iadd hx hb dX2_crowdsThere_38 ?_
          refine lv_seti (y := sumTo (fun c => bI (decide (0 < st 2 c))) (k + 1)) (by show _ = _ + bI (decide (0 < st 2 k)); rw [hv]; rfl) ?_
          refine lv_istore_n (lv' := [(1, _), (2, _), (0, _)]) hx hb dX2_crowdsThere_39 rfl hl (by decide) rfl (fun ls hl => ?_)
          refine lv_iinc (lv' := [(2, _), (1, _), (0, _)]) hx hb dX2_crowdsThere_40 hl (k := 1) rfl (v := nI (k + 1)) (nI_1 k) (by decide) rfl (fun ls hl => ?_)
          refine lv_goto (tgt := 4) hx hb dX2_crowdsThere_43 (by decide) ?_
          exact ih (k + 1) _ (by omega) (by omega) hl
        · skip
          have hv := bI_t c_30
          refine lv_iconst (v := 1) hx hb dX2_crowdsThere_33 (by decide) ?_
          refine lv_goto (tgt := 38) hx hb dX2_crowdsThere_34 (by decide) ?_
          refine lv_iadd hx hb dX2_crowdsThere_38 ?_
          refine lv_seti (y := sumTo (fun c => bI (decide (0 < st 2 c))) (k + 1)) (by show _ = _ + bI (decide (0 < st 2 k)); rw [hv]; rfl) ?_
          refine lv_istore_n (lv' := [(1, _), (2, _), (0, _)]) hx hb dX2_crowdsThere_39 rfl hl (by decide) rfl (fun ls hl => ?_)
          refine lv_iinc (lv' := [(2, _), (1, _), (0, _)]) hx hb dX2_crowdsThere_40 hl (k := 1) rfl (v := nI (k + 1)) (nI_1 k) (by decide) rfl (fun ls hl => ?_)
          refine lv_goto (tgt := 4) hx hb dX2_crowdsThere_43 (by decide) ?_
          exact ih (k + 1) _ (by omega) (by omega) hl
  exact L4 (nC st + 1) 0 _ (by omega) (by omega) (by rw [nI_0]; exact hl)

set_option maxHeartbeats 4000000 in
theorem m_X2_barricades (z : Zt) (l : Launch) {H : Heap} {F : Nat → Prop} {ad : Nat → Nat → Nat} {st : St} {gh : Gh} (hQ : QW z F ad st gh H) : Ri z l yX2_barricades cX2_barricades 6 .int [.ref (ad 0 0)] H 4 (fun r => r = sumTo (fun k => mx 0 (st 0 k)) 108) := by
  refine en_Ri (own := RX2) (by decide) rfl (Nat.le_of_ble_eq_true rfl) ?_
  intro ag pp ev sS mM below meth cd ls Q C hS hl hR
  have hx := C.1.1
  have hb := C.1.2.1
  have hl : lv_has ls 6 [(0, .ref (ad 0 0))] := hl
  refine lv_iconst (v := 0) hx hb dX2_barricades_0 (by decide) ?_
  refine lv_istore_n (lv' := [(1, _), (0, _)]) hx hb dX2_barricades_1 rfl hl (by decide) rfl (fun ls hl => ?_)
  refine lv_aload_n hx hb dX2_barricades_2 rfl (lv_at hl 1 rfl) ?_
  refine gf_X2_9 C hQ.q rfl dX2_barricades_3 ?_
  refine lv_astore_n (lv' := [(2, _), (1, _), (0, _)]) hx hb dX2_barricades_6 rfl hl (by decide) rfl (fun ls hl => ?_)
  refine lv_aload_n hx hb dX2_barricades_7 rfl (lv_at hl 0 rfl) ?_
  refine g_ialen C hQ.cs dX2_barricades_8 ?_
  refine lv_istore_n (lv' := [(3, _), (2, _), (1, _), (0, _)]) hx hb dX2_barricades_9 rfl hl (by decide) rfl (fun ls hl => ?_)
  refine lv_iconst (v := 0) hx hb dX2_barricades_10 (by decide) ?_
  refine lv_istore (lv' := [(4, _), (3, _), (2, _), (1, _), (0, _)]) hx hb dX2_barricades_11 hl (by decide) rfl (fun ls hl => ?_)
  have L13 : ∀ (k9 : Nat) (k : Nat) (ls : Array Slot), k ≤ 108 → 108 + 1 ≤ k + k9 → lv_has ls 6 [(4, .int (nI k)), (3, .int (nI 108)), (2, .ref (ad 1 0)), (1, .int (sumTo (fun k => mx 0 (st 0 k)) k)), (0, .ref (ad 0 0))] → W pp l ev (RL 4 0 0) sS mM ag below meth cd H [] 0 0 Q (F0 mM 13 ls []) := by
    intro k9
    induction k9 with
    | zero =>
      intro k ls hk0 hk1 hl
      omega
    | succ k9 ih =>
      intro k ls hk0 hk1 hl
      refine lv_iload hx hb dX2_barricades_13 (lv_at hl 0 rfl) ?_
      refine lv_iload_n hx hb dX2_barricades_15 rfl (lv_at hl 1 rfl) ?_
      refine lv_icmp_ge (tgt := 40) hx hb dX2_barricades_16 (by decide) (fun c_16 => ?_) (fun c_16 => ?_)
      · skip
        have hke : k = 108 := lp_end hk0 c_16 (by omega)
        refine lv_iload_n hx hb dX2_barricades_40 rfl (lv_at hl 3 rfl) ?_
        exact hR _ _ _ dX2_barricades_41 rfl (by rw [hke])
      · skip
        have hk : k < 108 := lp_in hk0 c_16 (by omega)
        refine lv_aload_n hx hb dX2_barricades_19 rfl (lv_at hl 2 rfl) ?_
        refine lv_iload hx hb dX2_barricades_20 (lv_at hl 0 rfl) ?_
        refine g_iald C hQ.cs (vp_in_nI hk (by omega)) dX2_barricades_22 ?_
        rw [nI_clamp (by omega)]
        refine lv_istore (lv' := [(5, _), (4, _), (3, _), (2, _), (1, _), (0, _)]) hx hb dX2_barricades_23 hl (by decide) rfl (fun ls hl => ?_)
        refine lv_iload_n hx hb dX2_barricades_25 rfl (lv_at hl 4 rfl) ?_
        refine lv_iconst (v := 0) hx hb dX2_barricades_26 (by decide) ?_
        refine lv_iload hx hb dX2_barricades_27 (lv_at hl 0 rfl) ?_
        refine g_max C (C.1.2.2.2.2 _ q201) (Nat.le_of_ble_eq_true rfl) hl.1 (Nat.le_of_ble_eq_true rfl) (by omega) (by omega) dX2_barricades_29 ?_
        refine lv_iadd hx hb dX2_barricades_32 ?_
        refine lv_istore_n (lv' := [(1, _), (5, _), (4, _), (3, _), (2, _), (0, _)]) hx hb dX2_barricades_33 rfl hl (by decide) rfl (fun ls hl => ?_)
        refine lv_iinc (lv' := [(4, _), (1, _), (5, _), (3, _), (2, _), (0, _)]) hx hb dX2_barricades_34 hl (k := 2) rfl (v := nI (k + 1)) (nI_1 k) (by decide) rfl (fun ls hl => ?_)
        refine lv_goto (tgt := 13) hx hb dX2_barricades_37 (by decide) ?_
        exact ih (k + 1) _ (by omega) (by omega) (lv_sub hl [0, 3, 4, 1, 5] rfl)
  exact L13 109 0 _ (by omega) (by omega) (by rw [nI_0]; exact hl)

set_option maxHeartbeats 4000000 in
theorem m_X2_cellsLike (z : Zt) (l : Launch) {H : Heap} {F : Nat → Prop} {ad : Nat → Nat → Nat} {st : St} {gh : Gh} (hQ : QW z F ad st gh H) {x : Int32} : Ri z l yX2_cellsLike cX2_cellsLike 7 .int [.ref (ad 0 0), .int x] H 4 (fun r => r = sumTo (fun k => bI (st 0 k == x)) 108) := by
  refine en_Ri (own := RX2) (by decide) rfl (Nat.le_of_ble_eq_true rfl) ?_
  intro ag pp ev sS mM below meth cd ls Q C hS hl hR
  have hx := C.1.1
  have hb := C.1.2.1
  have hl : lv_has ls 7 [(0, .ref (ad 0 0)), (1, .int x)] := hl
  refine lv_iconst (v := 0) hx hb dX2_cellsLike_0 (by decide) ?_
  refine lv_istore_n (lv' := [(2, _), (0, _), (1, _)]) hx hb dX2_cellsLike_1 rfl hl (by decide) rfl (fun ls hl => ?_)
  refine lv_aload_n hx hb dX2_cellsLike_2 rfl (lv_at hl 1 rfl) ?_
  refine gf_X2_9 C hQ.q rfl dX2_cellsLike_3 ?_
  refine lv_astore_n (lv' := [(3, _), (2, _), (0, _), (1, _)]) hx hb dX2_cellsLike_6 rfl hl (by decide) rfl (fun ls hl => ?_)
  refine lv_aload_n hx hb dX2_cellsLike_7 rfl (lv_at hl 0 rfl) ?_
  refine g_ialen C hQ.cs dX2_cellsLike_8 ?_
  refine lv_istore (lv' := [(4, _), (3, _), (2, _), (0, _), (1, _)]) hx hb dX2_cellsLike_9 hl (by decide) rfl (fun ls hl => ?_)
  refine lv_iconst (v := 0) hx hb dX2_cellsLike_11 (by decide) ?_
  refine lv_istore (lv' := [(5, _), (4, _), (3, _), (2, _), (0, _), (1, _)]) hx hb dX2_cellsLike_12 hl (by decide) rfl (fun ls hl => ?_)
  have L14 : ∀ (k9 : Nat) (k : Nat) (ls : Array Slot), k ≤ 108 → 108 + 1 ≤ k + k9 → lv_has ls 7 [(5, .int (nI k)), (4, .int (nI 108)), (3, .ref (ad 1 0)), (2, .int (sumTo (fun k => bI (st 0 k == x)) k)), (0, .ref (ad 0 0)), (1, .int x)] → W pp l ev (RL 4 0 0) sS mM ag below meth cd H [] 0 0 Q (F0 mM 14 ls []) := by
    intro k9
    induction k9 with
    | zero =>
      intro k ls hk0 hk1 hl
      omega
    | succ k9 ih =>
      intro k ls hk0 hk1 hl
      refine lv_iload hx hb dX2_cellsLike_14 (lv_at hl 0 rfl) ?_
      refine lv_iload hx hb dX2_cellsLike_16 (lv_at hl 1 rfl) ?_
      refine lv_icmp_ge (tgt := 47) hx hb dX2_cellsLike_18 (by decide) (fun c_18 => ?_) (fun c_18 => ?_)
      · skip
        have hke : k = 108 := lp_end hk0 c_18 (by omega)
        refine lv_iload_n hx hb dX2_cellsLike_47 rfl (lv_at hl 3 rfl) ?_
        exact hR _ _ _ dX2_cellsLike_48 rfl (by rw [hke])
      · skip
        have hk : k < 108 := lp_in hk0 c_18 (by omega)
        refine lv_aload_n hx hb dX2_cellsLike_21 rfl (lv_at hl 2 rfl) ?_
        refine lv_iload hx hb dX2_cellsLike_22 (lv_at hl 0 rfl) ?_
        refine g_iald C hQ.cs (vp_in_nI hk (by omega)) dX2_cellsLike_24 ?_
        rw [nI_clamp (by omega)]
        refine lv_istore (lv' := [(6, _), (5, _), (4, _), (3, _), (2, _), (0, _), (1, _)]) hx hb dX2_cellsLike_25 hl (by decide) rfl (fun ls hl => ?_)
        refine lv_iload_n hx hb dX2_cellsLike_27 rfl (lv_at hl 4 rfl) ?_
        refine lv_iload hx hb dX2_cellsLike_28 (lv_at hl 0 rfl) ?_
        refine lv_iload_n hx hb dX2_cellsLike_30 rfl (lv_at hl 6 rfl) ?_
        refine lv_icmp_ne (tgt := 38) hx hb dX2_cellsLike_31 (by decide) (fun c_31 => ?_) (fun c_31 => ?_)
        · skip
          have hv : (st 0 k == x) = false := by simpa using c_31
          refine lv_iconst (v := 0) hx hb dX2_cellsLike_38 (by decide) ?_
          refine lv_iadd hx hb dX2_cellsLike_39 ?_
          refine lv_seti (y := sumTo (fun k => bI (st 0 k == x)) (k + 1)) (by show _ = _ + bI (st 0 k == x); rw [hv]; rfl) ?_
          refine lv_istore_n (lv' := [(2, _), (6, _), (5, _), (4, _), (3, _), (0, _), (1, _)]) hx hb dX2_cellsLike_40 rfl hl (by decide) rfl (fun ls hl => ?_)
          refine lv_iinc (lv' := [(5, _), (2, _), (6, _), (4, _), (3, _), (0, _), (1, _)]) hx hb dX2_cellsLike_41 hl (k := 2) rfl (v := nI (k + 1)) (nI_1 k) (by decide) rfl (fun ls hl => ?_)
          refine lv_goto (tgt := 14) hx hb dX2_cellsLike_44 (by decide) ?_
          exact ih (k + 1) _ (by omega) (by omega) (lv_sub hl [0, 3, 4, 1, 5, 6] rfl)
        · skip
          have hv : (st 0 k == x) = true := by simpa using c_31
          refine lv_iconst (v := 1) hx hb dX2_cellsLike_34 (by decide) ?_
          refine lv_goto (tgt := 39) hx hb dX2_cellsLike_35 (by decide) ?_
          refine lv_iadd hx hb dX2_cellsLike_39 ?_
          refine lv_seti (y := sumTo (fun k => bI (st 0 k == x)) (k + 1)) (by show _ = _ + bI (st 0 k == x); rw [hv]; rfl) ?_
          refine lv_istore_n (lv' := [(2, _), (6, _), (5, _), (4, _), (3, _), (0, _), (1, _)]) hx hb dX2_cellsLike_40 rfl hl (by decide) rfl (fun ls hl => ?_)
          refine lv_iinc (lv' := [(5, _), (2, _), (6, _), (4, _), (3, _), (0, _), (1, _)]) hx hb dX2_cellsLike_41 hl (k := 2) rfl (v := nI (k + 1)) (nI_1 k) (by decide) rfl (fun ls hl => ?_)
          refine lv_goto (tgt := 14) hx hb dX2_cellsLike_44 (by decide) ?_
          exact ih (k + 1) _ (by omega) (by omega) (lv_sub hl [0, 3, 4, 1, 5, 6] rfl)
  exact L14 109 0 _ (by omega) (by omega) (by rw [nI_0]; exact hl)

set_option maxHeartbeats 4000000 in
theorem m_X2_costs (z : Zt) (l : Launch) {H : Heap} {F : Nat → Prop} {ad : Nat → Nat → Nat} {st : St} {gh : Gh} (hQ : QW z F ad st gh H) {x : Int32} (hx9 : Cl x) : Ri z l yX2_costs cX2_costs 2 .int [.ref (ad 0 0), .int x] H 2 (fun r => r = bI (frB st x)) := by
  refine en_Ri (own := RX2) (by decide) rfl (Nat.le_of_ble_eq_true rfl) ?_
  intro ag pp ev sS mM below meth cd ls Q C hS hl hR
  have hx := C.1.1
  have hb := C.1.2.1
  have hl : lv_has ls 2 [(0, .ref (ad 0 0)), (1, .int x)] := hl
  refine lv_aload_n hx hb dX2_costs_0 rfl (lv_at hl 0 rfl) ?_
  refine lv_iload_n hx hb dX2_costs_1 rfl (lv_at hl 1 rfl) ?_
  refine cv_X2_121 C hQ.q hS (m_X2_isFree z l hQ hx9) (Nat.le_of_ble_eq_true rfl) hl.1 (Nat.le_of_ble_eq_true rfl) (by omega) (by omega) dX2_costs_2 (fun r_2 h_2 => ?_)
  subst h_2
  refine lv_if_eq (tgt := 12) hx hb dX2_costs_5 (by decide) (fun c_5 => ?_) (fun c_5 => ?_)
  · skip
    have hv := bI_f c_5
    refine lv_iconst (v := 0) hx hb dX2_costs_12 (by decide) ?_
    exact hR _ _ _ dX2_costs_13 rfl (by rw [hv]; rfl)
  · skip
    have hv := bI_t c_5
    refine lv_iconst (v := 1) hx hb dX2_costs_8 (by decide) ?_
    refine lv_goto (tgt := 13) hx hb dX2_costs_9 (by decide) ?_
    exact hR _ _ _ dX2_costs_13 rfl (by rw [hv]; rfl)

set_option maxHeartbeats 4000000 in
theorem m_X2_isTaken (z : Zt) (l : Launch) {H : Heap} {F : Nat → Prop} {ad : Nat → Nat → Nat} {st : St} {gh : Gh} (hQ : QW z F ad st gh H) {x : Int32} : Ri z l yX2_isTaken cX2_isTaken 4 .boolean [.ref (ad 0 0), .int x] H 4 (fun r => r = bI (bzB st x)) := by
  refine en_Ri (own := RX2) (by decide) rfl (Nat.le_of_ble_eq_true rfl) ?_
  intro ag pp ev sS mM below meth cd ls Q C hS hl hR
  have hx := C.1.1
  have hb := C.1.2.1
  have hl : lv_has ls 4 [(0, .ref (ad 0 0)), (1, .int x)] := hl
  refine lv_iconst (v := 0) hx hb dX2_isTaken_0 (by decide) ?_
  refine lv_istore_n (lv' := [(2, _), (0, _), (1, _)]) hx hb dX2_isTaken_1 rfl hl (by decide) rfl (fun ls hl => ?_)
  refine lv_iconst (v := 0) hx hb dX2_isTaken_2 (by decide) ?_
  refine lv_istore_n (lv' := [(3, _), (2, _), (0, _), (1, _)]) hx hb dX2_isTaken_3 rfl hl (by decide) rfl (fun ls hl => ?_)
  have L4 : ∀ (k9 : Nat) (k : Nat) (ls : Array Slot), k ≤ nC st → nC st + 1 ≤ k + k9 → lv_has ls 4 [(3, .int (nI k)), (2, .int (bI (anyTo (bzC st x) k))), (0, .ref (ad 0 0)), (1, .int x)] → W pp l ev (RL 4 0 0) sS mM ag below meth cd H [] 0 0 Q (F0 mM 4 ls []) := by
    intro k9
    induction k9 with
    | zero =>
      intro k ls hk0 hk1 hl
      omega
    | succ k9 ih =>
      intro k ls hk0 hk1 hl
      refine lv_iload_n hx hb dX2_isTaken_4 rfl (lv_at hl 0 rfl) ?_
      refine lv_aload_n hx hb dX2_isTaken_5 rfl (lv_at hl 2 rfl) ?_
      refine gf_X2_18 C hQ.q rfl dX2_isTaken_6 ?_
      refine cv_X2_36 C hQ.lc hS (m_J2_size z l hQ.lc) (Nat.le_of_ble_eq_true rfl) hl.1 (Nat.le_of_ble_eq_true rfl) (by omega) (by omega) dX2_isTaken_9 (fun r_9 h_9 => ?_)
      subst h_9
      refine lv_icmp_ge (tgt := 64) hx hb dX2_isTaken_12 (by decide) (fun c_12 => ?_) (fun c_12 => ?_)
      · skip
        have hke : k = nC st := lp_end hk0 c_12 (by have := hQ.nCi; omega)
        refine lv_iconst (v := 0) hx hb dX2_isTaken_64 (by decide) ?_
        refine lv_istore_n (lv' := [(3, _), (2, _), (0, _), (1, _)]) hx hb dX2_isTaken_65 rfl hl (by decide) rfl (fun ls hl => ?_)
        have L66 : ∀ (k9 : Nat) (k : Nat) (ls : Array Slot), k ≤ nP st → nP st + 1 ≤ k + k9 → lv_has ls 4 [(3, .int (nI k)), (2, .int (bI (anyTo (bzC st x) (nC st) || anyTo (bzP st x) k))), (0, .ref (ad 0 0)), (1, .int x)] → W pp l ev (RL 4 0 0) sS mM ag below meth cd H [] 0 0 Q (F0 mM 66 ls []) := by
          intro k9
          induction k9 with
          | zero =>
            intro k ls hk0 hk1 hl
            omega
          | succ k9 ih =>
            intro k ls hk0 hk1 hl
            refine lv_iload_n hx hb dX2_isTaken_66 rfl (lv_at hl 0 rfl) ?_
            refine lv_aload_n hx hb dX2_isTaken_67 rfl (lv_at hl 2 rfl) ?_
            refine gf_X2_22 C hQ.q rfl dX2_isTaken_68 ?_
            refine cv_X2_36 C hQ.lp hS (m_J2_size z l hQ.lp) (Nat.le_of_ble_eq_true rfl) hl.1 (Nat.le_of_ble_eq_true rfl) (by omega) (by omega) dX2_isTaken_71 (fun r_71 h_71 => ?_)
            subst h_71
            refine lv_icmp_ge (tgt := 109) hx hb dX2_isTaken_74 (by decide) (fun c_74 => ?_) (fun c_74 => ?_)
            · skip
              have hke2 : k = nP st := lp_end hk0 c_74 (by have := hQ.nPi; omega)
              refine lv_iload_n hx hb dX2_isTaken_109 rfl (lv_at hl 1 rfl) ?_
              exact hR _ _ _ dX2_isTaken_110 (bI_n _) (by rw [hke2]; rfl)
            · skip
              have hk : k < nP st := lp_in hk0 c_74 (by have := hQ.nPi; omega)
              refine lv_iload_n hx hb dX2_isTaken_77 rfl (lv_at hl 1 rfl) ?_
              refine lv_aload_n hx hb dX2_isTaken_78 rfl (lv_at hl 2 rfl) ?_
              refine gf_X2_22 C hQ.q rfl dX2_isTaken_79 ?_
              refine lv_iload_n hx hb dX2_isTaken_82 rfl (lv_at hl 0 rfl) ?_
              refine cv_X2_40 C hQ.lp hS (m_getP z l hQ hk) (Nat.le_of_ble_eq_true rfl) hl.1 (Nat.le_of_ble_eq_true rfl) (by omega) (by omega) dX2_isTaken_83 (fun r_83 h_83 => ?_)
              subst h_83
              refine va_castE hx hb C.1.2.2.2.1 (C.1.2.2.2.2 _ q228) ((hQ.p hk).recv C.2.1 rfl) dX2_isTaken_86 ?_
              refine gf_X2_66 C (hQ.p hk) rfl dX2_isTaken_89 ?_
              refine lv_iload_n hx hb dX2_isTaken_92 rfl (lv_at hl 3 rfl) ?_
              refine lv_icmp_ne (tgt := 100) hx hb dX2_isTaken_93 (by decide) (fun c_93 => ?_) (fun c_93 => ?_)
              · skip
                have hv : bzP st x k = false := by simpa [bzP] using c_93
                refine lv_iconst (v := 0) hx hb dX2_isTaken_100 (by decide) ?_
                refine lv_ior hx hb dX2_isTaken_101 ?_
                refine lv_seti (y := bI (anyTo (bzC st x) (nC st) || anyTo (bzP st x) (k + 1))) (by show _ = bI (_ || (_ || bzP st x k)); rw [hv, ← Bool.or_assoc]; first | exact or_t _ | exact or_f _) ?_
                refine lv_istore_n (lv' := [(2, _), (3, _), (0, _), (1, _)]) hx hb dX2_isTaken_102 rfl hl (by decide) rfl (fun ls hl => ?_)
                refine lv_iinc (lv' := [(3, _), (2, _), (0, _), (1, _)]) hx hb dX2_isTaken_103 hl (k := 1) rfl (v := nI (k + 1)) (nI_1 k) (by decide) rfl (fun ls hl => ?_)
                refine lv_goto (tgt := 66) hx hb dX2_isTaken_106 (by decide) ?_
                exact ih (k + 1) _ (by omega) (by omega) hl
              · skip
                have hv : bzP st x k = true := by simpa [bzP] using c_93
                refine lv_iconst (v := 1) hx hb dX2_isTaken_96 (by decide) ?_
                refine lv_goto (tgt := 101) hx hb dX2_isTaken_97 (by decide) ?_
                refine lv_ior hx hb dX2_isTaken_101 ?_
                refine lv_seti (y := bI (anyTo (bzC st x) (nC st) || anyTo (bzP st x) (k + 1))) (by show _ = bI (_ || (_ || bzP st x k)); rw [hv, ← Bool.or_assoc]; first | exact or_t _ | exact or_f _) ?_
                refine lv_istore_n (lv' := [(2, _), (3, _), (0, _), (1, _)]) hx hb dX2_isTaken_102 rfl hl (by decide) rfl (fun ls hl => ?_)
                refine lv_iinc (lv' := [(3, _), (2, _), (0, _), (1, _)]) hx hb dX2_isTaken_103 hl (k := 1) rfl (v := nI (k + 1)) (nI_1 k) (by decide) rfl (fun ls hl => ?_)
                refine lv_goto (tgt := 66) hx hb dX2_isTaken_106 (by decide) ?_
                exact ih (k + 1) _ (by omega) (by omega) hl
        exact L66 (nP st + 1) 0 _ (by omega) (by omega) (by rw [nI_0, show anyTo (bzP st x) 0 = false from rfl, Bool.or_false, ← hke]; exact hl)
      · skip
        have hk : k < nC st := lp_in hk0 c_12 (by have := hQ.nCi; omega)
        refine lv_iload_n hx hb dX2_isTaken_15 rfl (lv_at hl 1 rfl) ?_
        refine lv_aload_n hx hb dX2_isTaken_16 rfl (lv_at hl 2 rfl) ?_
        refine gf_X2_18 C hQ.q rfl dX2_isTaken_17 ?_
        refine lv_iload_n hx hb dX2_isTaken_20 rfl (lv_at hl 0 rfl) ?_
        refine cv_X2_40 C hQ.lc hS (m_getC z l hQ hk) (Nat.le_of_ble_eq_true rfl) hl.1 (Nat.le_of_ble_eq_true rfl) (by omega) (by omega) dX2_isTaken_21 (fun r_21 h_21 => ?_)
        subst h_21
        refine va_castE hx hb C.1.2.2.2.1 (C.1.2.2.2.2 _ q174) ((hQ.c hk).recv C.2.1 rfl) dX2_isTaken_24 ?_
        refine cv_X2_59 C (hQ.c hk) hS (m_X5_isThere z l (hQ.c hk)) (Nat.le_of_ble_eq_true rfl) hl.1 (Nat.le_of_ble_eq_true rfl) (by omega) (by omega) dX2_isTaken_27 (fun r_27 h_27 => ?_)
        subst h_27
        refine lv_if_eq (tgt := 55) hx hb dX2_isTaken_30 (by decide) (fun c_30 => ?_) (fun c_30 => ?_)
        · skip
          have hd := bI_f c_30
          have hv : bzC st x k = false := by simp [bzC, hd]
          refine lv_iconst (v := 0) hx hb dX2_isTaken_55 (by decide) ?_
          refine lv_ior hx hb dX2_isTaken_56 ?_
          refine lv_seti (y := bI (anyTo (bzC st x) (k + 1))) (by show _ = bI (_ || bzC st x k); rw [hv]; first | exact or_t _ | exact or_f _) ?_
          refine lv_istore_n (lv' := [(2, _), (3, _), (0, _), (1, _)]) hx hb dX2_isTaken_57 rfl hl (by decide) rfl (fun ls hl => ?_)
          refine lv_iinc (lv' := [(3, _), (2, _), (0, _), (1, _)]) hx hb dX2_isTaken_58 hl (k := 1) rfl (v := nI (k + 1)) (nI_1 k) (by decide) rfl (fun ls hl => ?_)
          refine lv_goto (tgt := 4) hx hb dX2_isTaken_61 (by decide) ?_
          exact ih (k + 1) _ (by omega) (by omega) hl
        · skip
          have hd := bI_t c_30
          refine lv_aload_n hx hb dX2_isTaken_33 rfl (lv_at hl 2 rfl) ?_
          refine gf_X2_18 C hQ.q rfl dX2_isTaken_34 ?_
          refine lv_iload_n hx hb dX2_isTaken_37 rfl (lv_at hl 0 rfl) ?_
          refine cv_X2_40 C hQ.lc hS (m_getC z l hQ hk) (Nat.le_of_ble_eq_true rfl) hl.1 (Nat.le_of_ble_eq_true rfl) (by omega) (by omega) dX2_isTaken_38 (fun r_38 h_38 => ?_)
          subst h_38
          refine va_castE hx hb C.1.2.2.2.1 (C.1.2.2.2.2 _ q174) ((hQ.c hk).recv C.2.1 rfl) dX2_isTaken_41 ?_
          refine gf_X2_63 C (hQ.c hk) rfl dX2_isTaken_44 ?_
          refine lv_iload_n hx hb dX2_isTaken_47 rfl (lv_at hl 3 rfl) ?_
          refine lv_icmp_ne (tgt := 55) hx hb dX2_isTaken_48 (by decide) (fun c_48 => ?_) (fun c_48 => ?_)
          · skip
            have hv : bzC st x k = false := by simp [bzC, c_48]
            refine lv_iconst (v := 0) hx hb dX2_isTaken_55 (by decide) ?_
            refine lv_ior hx hb dX2_isTaken_56 ?_
            refine lv_seti (y := bI (anyTo (bzC st x) (k + 1))) (by show _ = bI (_ || bzC st x k); rw [hv]; first | exact or_t _ | exact or_f _) ?_
            refine lv_istore_n (lv' := [(2, _), (3, _), (0, _), (1, _)]) hx hb dX2_isTaken_57 rfl hl (by decide) rfl (fun ls hl => ?_)
            refine lv_iinc (lv' := [(3, _), (2, _), (0, _), (1, _)]) hx hb dX2_isTaken_58 hl (k := 1) rfl (v := nI (k + 1)) (nI_1 k) (by decide) rfl (fun ls hl => ?_)
            refine lv_goto (tgt := 4) hx hb dX2_isTaken_61 (by decide) ?_
            exact ih (k + 1) _ (by omega) (by omega) hl
          · skip
            have hv : bzC st x k = true := by simp only [bzC, hd]; simpa using c_48
            refine lv_iconst (v := 1) hx hb dX2_isTaken_51 (by decide) ?_
            refine lv_goto (tgt := 56) hx hb dX2_isTaken_52 (by decide) ?_
            refine lv_ior hx hb dX2_isTaken_56 ?_
            refine lv_seti (y := bI (anyTo (bzC st x) (k + 1))) (by show _ = bI (_ || bzC st x k); rw [hv]; first | exact or_t _ | exact or_f _) ?_
            refine lv_istore_n (lv' := [(2, _), (3, _), (0, _), (1, _)]) hx hb dX2_isTaken_57 rfl hl (by decide) rfl (fun ls hl => ?_)
            refine lv_iinc (lv' := [(3, _), (2, _), (0, _), (1, _)]) hx hb dX2_isTaken_58 hl (k := 1) rfl (v := nI (k + 1)) (nI_1 k) (by decide) rfl (fun ls hl => ?_)
            refine lv_goto (tgt := 4) hx hb dX2_isTaken_61 (by decide) ?_
            exact ih (k + 1) _ (by omega) (by omega) hl
  exact L4 (nC st + 1) 0 _ (by omega) (by omega) (by rw [nI_0]; exact hl)

