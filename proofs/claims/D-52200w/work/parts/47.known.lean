set_option maxRecDepth 100000
section CVF
variable {p : Program} {l : Launch} {e : Env} {s : State} {m : MethodId} {args : Array Value} {below : List Frame} {meth : Method} {c : Code} {H : Heap} {locs : List Loc} {cells slots : Nat} {Q : State → Prop}
variable {cc : ByteArray} {pc : Nat} {ls : Array Slot} {rest : List Value} {z : Zt} {b : Nat} {nL k k0 mc0 ms0 mc ms : Nat}
theorem e_Ri5 {R : Room} {st0 : List Value} {a : Array Value} {post : Int32 → Prop} (hr : va_Run5 p l e R s m args below meth c H locs cells slots 0 0 (F0 m pc ls st0) rest (vp_Si post a) (fun _ => False)) (kk : ∀ r : Int32, post r → W p l e R s m args below meth c H locs cells slots Q (F0 m (pc + 5) ls (.int r :: rest))) : W p l e R s m args below meth c H locs cells slots Q (F0 m pc ls st0) := by
  intro T hT X
  obtain ⟨v, st₀, t, T', L, h0, X', hL, e1, e2, ⟨r, hv, hp, hh⟩, st⟩ := hr T hT X
  cases hv
  obtain ⟨t2, a1, b1⟩ := kk r hp T' (by rw [e1, hh, h0]) (Stand.forget X' (fun q h => (hL q h).elim))
  exact ⟨t2, st t2 a1, b1⟩
theorem e_Rq5 {R : Room} {st0 : List Value} {a : Array Value} {post : Option Nat → Prop} (hr : va_Run5 p l e R s m args below meth c H locs cells slots 0 0 (F0 m pc ls st0) rest (va_Sq post a) (fun _ => False)) (kk : ∀ r : Option Nat, post r → W p l e R s m args below meth c H locs cells slots Q (F0 m (pc + 5) ls (va_rf r :: rest))) : W p l e R s m args below meth c H locs cells slots Q (F0 m pc ls st0) := by
  intro T hT X
  obtain ⟨v, st₀, t, T', L, h0, X', hL, e1, e2, ⟨r, hv, hp, hh⟩, st⟩ := hr T hT X
  cases hv
  obtain ⟨t2, a1, b1⟩ := kk r hp T' (by rw [e1, hh, h0]) (Stand.forget X' (fun q h => (hL q h).elim))
  exact ⟨t2, st t2 a1, b1⟩
theorem GV.atL (h : GV z s) : ∃ cC, ClassAt s "java/util/ArrayList" cC := by
  obtain ⟨-, hfc, kC, hkC, hkind⟩ := h.1.1 2 (RJ2, TJ2, 3) rfl
  exact ⟨_, hfc, kC, hkC, hkind⟩
theorem gF_size : GoodIn lw_all (va_wsF RX1 19 RJ2 x_lsize yJ2_size (ws_ yJ2_size cJ2_size 1 (some .int))) := by
  refine lw_app (a := [.methodLink RX1 19 x_lsize, .selects RJ2 x_lsize yJ2_size, .instanceMethod yJ2_size, .initialized RJ2]) (fun w h => ?_) (lw_meth q159)
  rcases List.mem_cons.mp h with rfl | h
  · exact q537
  rcases List.mem_cons.mp h with rfl | h
  · exact q541
  rcases List.mem_cons.mp h with rfl | h
  · exact q157
  rcases List.mem_cons.mp h with rfl | h
  · exact q41
  · cases h
theorem gF_get : GoodIn lw_all (va_wsF RX1 29 RJ2 x_lget yJ2_get (ws_ yJ2_get cJ2_get 2 (some (.object "java/lang/Object")))) := by
  refine lw_app (a := [.methodLink RX1 29 x_lget, .selects RJ2 x_lget yJ2_get, .instanceMethod yJ2_get, .initialized RJ2]) (fun w h => ?_) (lw_meth q163)
  rcases List.mem_cons.mp h with rfl | h
  · exact q545
  rcases List.mem_cons.mp h with rfl | h
  · exact q548
  rcases List.mem_cons.mp h with rfl | h
  · exact q161
  rcases List.mem_cons.mp h with rfl | h
  · exact q41
  · cases h
theorem cf_size {post : Int32 → Prop} (C : CX z p s m args meth c cc nL RX1) {fs : List Value} (hq : c1 z b (.inr (2, fs)) H) (hS : va_S (AA z) s.heap H locs) (hM : Ri z l yJ2_size cJ2_size 1 (.int) [.ref b] H k post) (hk : k + 1 ≤ k0) (hsz : ls.size = nL) (hW : (rest.map fun v => v.category).sum ≤ 8) (hc : cells + 0 ≤ mc0) (hs : slots + 0 ≤ ms0) {ct : Nat} (hdg : decode cc pc = .ok (.invokeinterface 19 ct, 5)) (kk : ∀ (r : Int32), post r → W p l e (RL k0 mc0 ms0) s m args below meth c H locs cells slots Q (F0 m (pc + 5) ls (.int r :: rest))) : W p l e (RL k0 mc0 ms0) s m args below meth c H locs cells slots Q (F0 m pc ls (.ref b :: rest)) := by
  obtain ⟨cC, hat⟩ := C.2.1.atL
  exact e_Ri5 (va_runF hat C.1 hM (va_cwF 0 C.1.2.2.2.2 gF_size rfl rfl rfl C.2.1.2.2.2.2.2.1 (by decide +kernel) (RLok hk (by decide))) ⟨PZ.blind, hq.recv C.2.1 rfl, PZ.pre C hS⟩ rfl rfl hsz rfl (lv_room hW) hdg ⟨hc, hs⟩) kk
theorem cf_get {post : Option Nat → Prop} {x1 : Value} (C : CX z p s m args meth c cc nL RX1) {fs : List Value} (hq : c1 z b (.inr (2, fs)) H) (hS : va_S (AA z) s.heap H locs) (hM : Rq z l yJ2_get cJ2_get 2 (.object "java/lang/Object") [.ref b, x1] H k post) (hk : k + 1 ≤ k0) (hsz : ls.size = nL) (hW : (rest.map fun v => v.category).sum ≤ 8) (hc : cells + 0 ≤ mc0) (hs : slots + 0 ≤ ms0) {ct : Nat} (hdg : decode cc pc = .ok (.invokeinterface 29 ct, 5)) (kk : ∀ (r : Option Nat), post r → W p l e (RL k0 mc0 ms0) s m args below meth c H locs cells slots Q (F0 m (pc + 5) ls (va_rf r :: rest))) : W p l e (RL k0 mc0 ms0) s m args below meth c H locs cells slots Q (F0 m pc ls (x1 :: .ref b :: rest)) := by
  obtain ⟨cC, hat⟩ := C.2.1.atL
  exact e_Rq5 (va_runF hat C.1 hM (va_cwF 1 C.1.2.2.2.2 gF_get rfl rfl rfl C.2.1.2.2.2.2.2.2.1 (by decide +kernel) (RLok hk (by decide))) ⟨PZ.blind, hq.recv C.2.1 rfl, PZ.pre C hS⟩ rfl rfl hsz rfl (lv_room hW) hdg ⟨hc, hs⟩) kk
end CVF
/-- cells by x and y -/
def ceOk (x y : Int32) : Prop := cOk x 12 ∧ cOk y 9
def ce (x y : Int32) : Int32 := 12 * y + x
theorem cOk_ex {x : Int32} {n : Nat} (hn : n < 2 ^ 30) (h : cOk x (nI n)) : ∃ k, k < n ∧ x = nI k := by
  have h1 : (nI n).toInt = n := by unfold nI; rw [Int32.toInt_ofNat_of_lt (by omega)]
  have h2 : (0 : Int32).toInt ≤ x.toInt := Int32.le_iff_toInt_le.mp h.1
  have h3 := Int32.lt_iff_toInt_lt.mp h.2
  rw [h1] at h3
  have h4 : (0 : Int32).toInt = 0 := rfl
  rw [h4] at h2
  refine ⟨x.toInt.toNat, by omega, ?_⟩
  apply Int32.toInt_inj.mp
  unfold nI
  rw [Int32.toInt_ofNat_of_lt (by omega)]
  omega
theorem cOk_nI {k n : Nat} (hn : n < 2 ^ 30) (h : k < n) : cOk (nI k) (nI n) := by
  have h1 : ∀ j, j < 2 ^ 30 → (nI j).toInt = j := fun j hj => by unfold nI; rw [Int32.toInt_ofNat_of_lt (by omega)]
  refine ⟨Int32.le_iff_toInt_le.mpr ?_, Int32.lt_iff_toInt_lt.mpr ?_⟩
  · rw [h1 k (by omega)]; exact Int.natCast_nonneg k
  · rw [h1 k (by omega), h1 n hn]; omega
theorem ce_Bd {x y : Int32} (h : ceOk x y) : Bd (ce x y) 108 := by
  obtain ⟨i, hi, rfl⟩ := cOk_ex (n := 12) (by omega) h.1
  obtain ⟨j, hj, rfl⟩ := cOk_ex (n := 9) (by omega) h.2
  refine ⟨12 * j + i, by omega, ?_⟩
  unfold ce nI
  rw [Int32.ofNat_add, Int32.ofNat_mul]
  rfl

set_option maxHeartbeats 4000000 in
theorem m_X1_requireFrom (z : Zt) (l : Launch) {H : Heap} (hlT : l.stackTraces = false) {lo hi v : Int32} : Xv z l yX1_requireFrom cX1_requireFrom 3 [.int lo, .int hi, .int v] H 7 1 6 (fun H1 => H1 = H ∧ lo ≤ v ∧ v ≤ hi) (fun E => E = eA_ ∧ ¬ (lo ≤ v ∧ v ≤ hi)) := by
  refine en_Xv (own := RX1) (by decide) rfl (Nat.le_of_ble_eq_true rfl) ?_
  intro ag pp ev sS mM below meth cd ls Q C hS hl hR hX
  have hx := C.1.1
  have hb := C.1.2.1
  have hl : lv_has ls 3 [(0, .int lo), (1, .int hi), (2, .int v)] := hl
  refine lv_iload_n hx hb dX1_requireFrom_0 rfl (lv_at hl 2 rfl) ?_
  refine lv_iload_n hx hb dX1_requireFrom_1 rfl (lv_at hl 0 rfl) ?_
  refine lv_icmp_lt (tgt := 14) hx hb dX1_requireFrom_2 (by decide) (fun c_2 => ?_) (fun c_2 => ?_)
  · skip
    refine lv_iconst (v := 0) hx hb dX1_requireFrom_14 (by decide) ?_
    refine cv_X1_15 C hS (m_X1_require z l hlT) (Nat.le_of_ble_eq_true rfl) hl.1 (Nat.le_of_ble_eq_true rfl) (by omega) (by omega) dX1_requireFrom_15 (fun E ce9 q9 H1 locs hpx hE hS h1 h2 h3 => hX _ _ _ _ _ _ _ _ _ _ h1 h2 h3 hS (by omega) (by omega) hE (⟨hpx.1, by first | exact absurd hpx.2 (by decide) | (intro h; exact absurd h.1 (Int32.not_le.mpr c_2)) | (intro h; exact absurd h.2 (Int32.not_le.mpr c_7))⟩)) (fun H1 locs h_15 hz_15 hS => ?_)
    obtain ⟨e15, h9⟩ := h_15
    rw [e15] at hS ⊢
    exact hR _ _ _ _ _ _ dX1_requireFrom_18 hS (by omega) (by omega) (⟨rfl, by first | exact ⟨Int32.not_lt.mp c_2, Int32.not_lt.mp c_7⟩ | exact absurd rfl h9⟩)
  · skip
    refine lv_iload_n hx hb dX1_requireFrom_5 rfl (lv_at hl 2 rfl) ?_
    refine lv_iload_n hx hb dX1_requireFrom_6 rfl (lv_at hl 1 rfl) ?_
    refine lv_icmp_gt (tgt := 14) hx hb dX1_requireFrom_7 (by decide) (fun c_7 => ?_) (fun c_7 => ?_)
    · skip
      refine lv_iconst (v := 0) hx hb dX1_requireFrom_14 (by decide) ?_
      refine cv_X1_15 C hS (m_X1_require z l hlT) (Nat.le_of_ble_eq_true rfl) hl.1 (Nat.le_of_ble_eq_true rfl) (by omega) (by omega) dX1_requireFrom_15 (fun E ce9 q9 H1 locs hpx hE hS h1 h2 h3 => hX _ _ _ _ _ _ _ _ _ _ h1 h2 h3 hS (by omega) (by omega) hE (⟨hpx.1, by first | exact absurd hpx.2 (by decide) | (intro h; exact absurd h.1 (Int32.not_le.mpr c_2)) | (intro h; exact absurd h.2 (Int32.not_le.mpr c_7))⟩)) (fun H1 locs h_15 hz_15 hS => ?_)
      obtain ⟨e15, h9⟩ := h_15
      rw [e15] at hS ⊢
      exact hR _ _ _ _ _ _ dX1_requireFrom_18 hS (by omega) (by omega) (⟨rfl, by first | exact ⟨Int32.not_lt.mp c_2, Int32.not_lt.mp c_7⟩ | exact absurd rfl h9⟩)
    · skip
      refine lv_iconst (v := 1) hx hb dX1_requireFrom_10 (by decide) ?_
      refine lv_goto (tgt := 15) hx hb dX1_requireFrom_11 (by decide) ?_
      refine cv_X1_15 C hS (m_X1_require z l hlT) (Nat.le_of_ble_eq_true rfl) hl.1 (Nat.le_of_ble_eq_true rfl) (by omega) (by omega) dX1_requireFrom_15 (fun E ce9 q9 H1 locs hpx hE hS h1 h2 h3 => hX _ _ _ _ _ _ _ _ _ _ h1 h2 h3 hS (by omega) (by omega) hE (⟨hpx.1, by first | exact absurd hpx.2 (by decide) | (intro h; exact absurd h.1 (Int32.not_le.mpr c_2)) | (intro h; exact absurd h.2 (Int32.not_le.mpr c_7))⟩)) (fun H1 locs h_15 hz_15 hS => ?_)
      obtain ⟨e15, h9⟩ := h_15
      rw [e15] at hS ⊢
      exact hR _ _ _ _ _ _ dX1_requireFrom_18 hS (by omega) (by omega) (⟨rfl, by first | exact ⟨Int32.not_lt.mp c_2, Int32.not_lt.mp c_7⟩ | exact absurd rfl h9⟩)

set_option maxHeartbeats 4000000 in
theorem m_X1_cellAt (z : Zt) (l : Launch) {H : Heap} (hlT : l.stackTraces = false) {x y : Int32} : Xi z l yX1_cellAt cX1_cellAt 2 .int [.int x, .int y] H 7 2 12 (fun r H1 => H1 = H ∧ r = ce x y ∧ ceOk x y) (fun E => E = eI_ ∧ ¬ ceOk x y) := by
  refine en_Xi (own := RX1) (by decide) rfl (Nat.le_of_ble_eq_true rfl) ?_
  intro ag pp ev sS mM below meth cd ls Q C hS hl hR hX
  have hx := C.1.1
  have hb := C.1.2.1
  have hl : lv_has ls 2 [(0, .int x), (1, .int y)] := hl
  refine lv_iload_n hx hb dX1_cellAt_0 rfl (lv_at hl 0 rfl) ?_
  refine lv_bipush (v := 12) hx hb dX1_cellAt_1 (by decide) ?_
  refine cv_X1_25 C hS (m_X1_requireIndex z l hlT) (Nat.le_of_ble_eq_true rfl) hl.1 (Nat.le_of_ble_eq_true rfl) (by omega) (by omega) dX1_cellAt_3 (fun E ce9 q9 H1 locs hpx hE hS h1 h2 h3 => hX _ _ _ _ _ _ _ _ _ _ h1 h2 h3 hS (by omega) (by omega) hE (⟨hpx.1, fun h => hpx.2 h.1⟩)) (fun H1 locs h_3 hz_3 hS => ?_)
  obtain ⟨e3, h3⟩ := h_3
  rw [e3] at hS ⊢
  refine lv_iload_n hx hb dX1_cellAt_6 rfl (lv_at hl 1 rfl) ?_
  refine lv_bipush (v := 9) hx hb dX1_cellAt_7 (by decide) ?_
  refine cv_X1_25 C hS (m_X1_requireIndex z l hlT) (Nat.le_of_ble_eq_true rfl) hl.1 (Nat.le_of_ble_eq_true rfl) (by omega) (by omega) dX1_cellAt_9 (fun E ce9 q9 H1 locs hpx hE hS h1 h2 h3 => hX _ _ _ _ _ _ _ _ _ _ h1 h2 h3 hS (by omega) (by omega) hE (⟨hpx.1, fun h => hpx.2 h.2⟩)) (fun H1 locs h_9 hz_9 hS => ?_)
  obtain ⟨e9, h9⟩ := h_9
  rw [e9] at hS ⊢
  refine lv_bipush (v := 12) hx hb dX1_cellAt_12 (by decide) ?_
  refine lv_iload_n hx hb dX1_cellAt_14 rfl (lv_at hl 1 rfl) ?_
  refine lv_imul hx hb dX1_cellAt_15 ?_
  refine lv_iload_n hx hb dX1_cellAt_16 rfl (lv_at hl 0 rfl) ?_
  refine lv_iadd hx hb dX1_cellAt_17 ?_
  exact hR _ _ _ _ _ _ _ dX1_cellAt_18 rfl hS (by omega) (by omega) (⟨rfl, rfl, h3, h9⟩)

set_option maxHeartbeats 4000000 in
theorem m_X1_known (z : Zt) (l : Launch) {H : Heap} (hlT : l.stackTraces = false) {a e n cap : Nat} {i md : Int32} {f : Nat → Option Nat} (hq : c1 z a (.inr (2, [.int md, .ref e, .int (nI n)])) H) (he : 0 < n → c1 z e (aQ z cap f) H) (hn : n ≤ cap) (hc : cap < 1000) : Xq z l yX1_known cX1_known 2 (.object "java/lang/Object") [.ref a, .int i] H 7 1 6 (fun r H1 => H1 = H ∧ ∃ k, k < n ∧ i = nI k ∧ r = f k) (fun E => E = eI_ ∧ ¬ cOk i (nI n)) := by
  refine en_Xq (own := RX1) (by decide) rfl (Nat.le_of_ble_eq_true rfl) (Or.inl ⟨_, rfl⟩) ?_
  intro ag pp ev sS mM below meth cd ls Q C hS hl hR hX
  have hx := C.1.1
  have hb := C.1.2.1
  have hl : lv_has ls 2 [(0, .ref a), (1, .int i)] := hl
  refine lv_iload_n hx hb dX1_known_0 rfl (lv_at hl 1 rfl) ?_
  refine lv_aload_n hx hb dX1_known_1 rfl (lv_at hl 0 rfl) ?_
  refine cf_size C hq hS (m_J2_size z l hq) (Nat.le_of_ble_eq_true rfl) hl.1 (Nat.le_of_ble_eq_true rfl) (by omega) (by omega) dX1_known_2 (fun r_2 h_2 => ?_)
  subst h_2
  refine cv_X1_25 C hS (m_X1_requireIndex z l hlT) (Nat.le_of_ble_eq_true rfl) hl.1 (Nat.le_of_ble_eq_true rfl) (by omega) (by omega) dX1_known_7 (fun E ce9 q9 H1 locs hpx hE hS h1 h2 h3 => hX _ _ _ _ _ _ _ _ _ _ h1 h2 h3 hS (by omega) (by omega) hE (⟨hpx.1, hpx.2⟩)) (fun H1 locs h_7 hz_7 hS => ?_)
  obtain ⟨e7, h7⟩ := h_7
  rw [e7] at hS ⊢
  obtain ⟨k, hk, rfl⟩ := cOk_ex (by omega) h7
  refine lv_aload_n hx hb dX1_known_10 rfl (lv_at hl 0 rfl) ?_
  refine lv_iload_n hx hb dX1_known_11 rfl (lv_at hl 1 rfl) ?_
  refine cf_get C hq hS (m_J2_get z l hq (he (by omega)) hk hn hc) (Nat.le_of_ble_eq_true rfl) hl.1 (Nat.le_of_ble_eq_true rfl) (by omega) (by omega) dX1_known_12 (fun r_12 h_12 => ?_)
  subst h_12
  exact hR _ _ (f k) _ _ _ _ dX1_known_17 hS (by omega) (by omega) (⟨rfl, k, hk, rfl, rfl⟩)

