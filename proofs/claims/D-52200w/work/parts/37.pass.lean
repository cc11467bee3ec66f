set_option maxRecDepth 100000
def paTo (st : St) (p : Nat) : Int32 := bes (st 7 p) (st 12 (12 * p + cN (st 8 p)))
def paNx (st : St) (p : Nat) : Int32 := st 8 p + 1 - (st 8 p + 1) / st 11 p * st 11 p
def paT (st : St) (p : Nat) : St := sSet (cond (frB st (paTo st p)) (sSet st 7 p (paTo st p)) st) 8 p (paNx st p)
def ppT (st : St) (c : Nat) : St := cond (decide (0 < st 2 c)) (sSet st 2 c (mx 0 (st 2 c - sumTo (fun p => bI (seB st p c)) (nP st)))) st
def actsT (st : St) : St := itTo (fun c s => actT s c) (nC st) st
def walksT (st : St) : St := itTo (fun p s => paT s p) (nP st) st
def shotT (st : St) : St := itTo (fun c s => ppT s c) (nC st) st
def passT (st : St) : St := sSet (shotT (walksT (actsT st))) 9 0 (shotT (walksT (actsT st)) 9 0 + 1)
def passN (st : St) : Nat → St
  | 0 => st
  | n + 1 => passT (passN st n)
theorem RK.pa (st : St) (p : Nat) : RK (paT st p) st := (RK.set _ _ _ (by omega)).tr (RK.cond (RK.set _ _ _ (by omega)) (RK.rf _))
theorem RK.pp (st : St) (c : Nat) : RK (ppT st c) st := RK.cond (RK.set _ _ _ (by omega)) (RK.rf _)
theorem RK.it {f : Nat → St → St} (h : ∀ k s, RK (f k s) s) (n : Nat) (st : St) : RK (itTo f n st) st := by
  induction n with
  | zero => exact RK.rf st
  | succ n ih => exact (h n _).tr ih
theorem RK.acts (st : St) : RK (actsT st) st := RK.it (fun k s => RK.act s k) _ _
theorem RK.walks (st : St) : RK (walksT st) st := RK.it (fun k s => RK.pa s k) _ _
theorem RK.shot (st : St) : RK (shotT st) st := RK.it (fun k s => RK.pp s k) _ _
theorem RK.pass (st : St) : RK (passT st) st := (RK.set _ _ _ (by omega)).tr ((RK.shot _).tr ((RK.walks _).tr (RK.acts _)))
theorem RK.passN (st : St) (n : Nat) : RK (passN st n) st := by
  induction n with
  | zero => exact RK.rf st
  | succ n ih => exact (RK.pass _).tr ih
theorem Inv.len {st : St} (h : Inv st) {p : Nat} (hp : p < nP st) : st 11 p = nI (cN (st 11 p)) ∧ 0 < cN (st 11 p) ∧ cN (st 11 p) ≤ 12 := by
  obtain ⟨j, hj, e⟩ := (h.2.2.2.1 p hp).2.1
  have e2 : st 11 p = nI (j + 1) := by rw [← nI_1, ← e]; grind
  unfold cN
  rw [e2, nI_clamp (by omega)]
  exact ⟨rfl, by omega, by omega⟩
theorem Inv.nx {st : St} (h : Inv st) {p : Nat} (hp : p < nP st) : Bd (paNx st p) (cN (st 11 p)) := by
  obtain ⟨e, h0, h1⟩ := h.len hp
  obtain ⟨j, hj, e8⟩ := (h.2.2.2.1 p hp).2.2.1
  obtain ⟨L, hL⟩ : ∃ L, L = cN (st 11 p) := ⟨_, rfl⟩
  rw [← hL] at e h0 h1 hj ⊢
  unfold paNx
  rw [e8, e, nI_1, pk_rem (by omega) h0 (by omega)]
  exact ⟨(j + 1) % L, Nat.mod_lt _ h0, rfl⟩
theorem Inv.dir {st : St} (h : Inv st) {p : Nat} (hp : p < nP st) : Bd (st 12 (12 * p + cN (st 8 p))) 4 := by
  obtain ⟨e, h0, h1⟩ := h.len hp
  exact (h.2.2.2.1 p hp).2.2.2 _ ((h.2.2.2.1 p hp).2.2.1.cl (by omega)).2
theorem Inv.to {st : St} (h : Inv st) {p : Nat} (hp : p < nP st) : Cl (paTo st p) := bes_cl (h.2.2.2.1 p hp).1 (h.dir hp)
theorem frB_b {st : St} {x : Int32} (h : frB st x = true) (hx : Cl x) : Bd x 108 := by
  unfold frB at h
  simp only [Bool.and_eq_true, Bool.not_eq_true', beq_eq_false_iff_ne] at h
  exact hx.resolve_left h.1
theorem sum_le {f : Nat → Int32} (hf : ∀ k, f k = 0 ∨ f k = 1) (n : Nat) : ∃ j, j ≤ n ∧ sumTo f n = nI j := by
  induction n with
  | zero => exact ⟨0, by omega, rfl⟩
  | succ n ih =>
    obtain ⟨j, hj, e⟩ := ih
    rcases hf n with h | h
    · exact ⟨j, by omega, by show sumTo f n + f n = _; rw [h, e]; grind⟩
    · exact ⟨j + 1, by omega, by show sumTo f n + f n = _; rw [h, e, nI_1]⟩
theorem bI_01 (b : Bool) : bI b = 0 ∨ bI b = 1 := by cases b; exact Or.inl rfl; exact Or.inr rfl
theorem shot_bd {x : Int32} (hx : Bd x 10) {f : Nat → Int32} (hf : ∀ k, f k = 0 ∨ f k = 1) {n : Nat} (hn : n ≤ 1000) : Bd (mx 0 (x - sumTo f n)) 10 := by
  obtain ⟨i, hi, rfl⟩ := hx
  obtain ⟨j, hj, e⟩ := sum_le hf n
  rw [e]
  unfold mx
  split
  · rename_i h
    rcases Nat.lt_or_ge i j with g | g
    · exact absurd h (by rw [Int32.not_lt, Int32.le_iff_toInt_le]; have := pk_sneg (a := i) (b := j) (by omega) g; rw [Int32.lt_iff_toInt_lt] at this; exact Int.le_of_lt this)
    · exact ⟨i - j, by omega, pk_sub g⟩
  · exact ⟨0, by omega, rfl⟩

set_option maxHeartbeats 4000000 in
theorem m_X2_walk (z : Zt) (l : Launch) {H : Heap} {F : Nat → Prop} {ad : Nat → Nat → Nat} {st : St} {gh : Gh} (hQ : QW z F ad st gh H) {p : Nat} (hp : p < nP st) : Kv z l yX2_walk cX2_walk 3 [.ref (ad 0 0), .ref (ad 5 p)] H 3 0 0 (fun H1 => QM z F ad (paT st p) H H1) := by
  refine en_Kv (own := RX2) (by decide) rfl (Nat.le_of_ble_eq_true rfl) ?_
  intro ag pp ev sS mM below meth cd ls Q C hin hS hl hR
  have hx := C.1.1
  have hb := C.1.2.1
  have hl : lv_has ls 3 [(0, .ref (ad 0 0)), (1, .ref (ad 5 p))] := hl
  have hlen := hQ.inv.len hp
  have hcl := hQ.inv.to hp
  refine lv_aload_n hx hb dX2_walk_0 rfl (lv_at hl 1 rfl) ?_
  refine gf_X2_66 C (hQ.p hp) rfl dX2_walk_1 ?_
  refine lv_aload_n hx hb dX2_walk_4 rfl (lv_at hl 1 rfl) ?_
  refine cv_X2_146 C (hQ.p hp) hS (m_X6_direction z l (hQ.p hp) (hQ.r hp) ((hQ.inv.2.2.2.1 p hp).2.2.1.in (by omega) (by omega))) (Nat.le_of_ble_eq_true rfl) hl.1 (Nat.le_of_ble_eq_true rfl) (by omega) (by omega) dX2_walk_5 (fun r_5 h_5 => ?_)
  subst h_5
  refine cv_X2_67 C hS (m_X1_beside z l) (Nat.le_of_ble_eq_true rfl) hl.1 (Nat.le_of_ble_eq_true rfl) (by omega) (by omega) dX2_walk_8 (fun r_8 h_8 => ?_)
  subst h_8
  refine lv_seti (y := paTo st p) rfl ?_
  refine lv_istore_n (lv' := [(2, _), (0, _), (1, _)]) hx hb dX2_walk_11 rfl hl (by decide) rfl (fun ls hl => ?_)
  refine lv_aload_n hx hb dX2_walk_12 rfl (lv_at hl 1 rfl) ?_
  refine lv_iload_n hx hb dX2_walk_13 rfl (lv_at hl 0 rfl) ?_
  refine cv_X2_121 C hQ.q hS (m_X2_isFree z l hQ hcl) (Nat.le_of_ble_eq_true rfl) hl.1 (Nat.le_of_ble_eq_true rfl) (by omega) (by omega) dX2_walk_14 (fun r_14 h_14 => ?_)
  subst h_14
  refine lv_if_eq (tgt := 25) hx hb dX2_walk_17 (by decide) (fun c_17 => ?_) (fun c_17 => ?_)
  · skip
    have hfr := bI_f c_17
    obtain ⟨st9, e9⟩ : ∃ s, s = cond (frB st (paTo st p)) (sSet st 7 p (paTo st p)) st := ⟨_, rfl⟩
    have e99 : st9 = st := by rw [e9, hfr]; rfl
    have hQ9 : QW z F ad st9 gh H := by rw [e99]; exact hQ
    have hM9 : QM z F ad st9 H H := QM.rf hQ9
    have hp9 : p < nP st9 := by rw [e99]; exact hp
    have hr9 : st9 11 p = st 11 p ∧ st9 8 p = st 8 p := by rw [e99]; exact ⟨rfl, rfl⟩
    refine lv_aload_n hx hb dX2_walk_25 rfl (lv_at hl 2 rfl) ?_
    refine cv_X2_149 C (hQ9.p hp9) hS (m_X6_goOn z l (hQ9.p hp9) (hQ9.r hp9) (hQ9.aa (k := 5) (i := p) hp9) (by rw [hr9.1]; exact nI_ne0 hlen.2.1 (by omega))) (Nat.le_of_ble_eq_true rfl) hl.1 (Nat.le_of_ble_eq_true rfl) (by omega) (by omega) dX2_walk_26 (fun H1 locs h_26 hz_26 hS => ?_)
    rw [← (hQ9.inv.len hp9).1] at h_26
    have hM2 := hQ9.set8 hp9 (hQ9.inv.nx hp9) h_26
    have e10 : paNx st9 p = paNx st p := by unfold paNx; rw [hr9.1, hr9.2]
    exact hR _ _ _ _ _ _ dX2_walk_29 hS (by omega) (by omega) (by unfold paT; rw [← e9, ← e10]; exact hM9.tr hM2)
  · skip
    have hfr := bI_t c_17
    have htb := frB_b hfr hcl
    refine lv_aload_n hx hb dX2_walk_20 rfl (lv_at hl 2 rfl) ?_
    refine lv_iload_n hx hb dX2_walk_21 rfl (lv_at hl 0 rfl) ?_
    refine pf_X2_66 C (hQ.p hp) (Nat.le_of_ble_eq_true rfl) rfl rfl hS (hQ.aa (k := 5) (i := p) hp) dX2_walk_22 (fun H1 locs hu hS => ?_)
    have hM1 := hQ.set7 hp htb hu
    obtain ⟨gh1, hQ1⟩ := hM1.1
    obtain ⟨st9, e9⟩ : ∃ s, s = cond (frB st (paTo st p)) (sSet st 7 p (paTo st p)) st := ⟨_, rfl⟩
    have e99 : st9 = sSet st 7 p (paTo st p) := by rw [e9, hfr]; rfl
    have hQ9 : QW z F ad st9 gh1 H1 := by rw [e99]; exact hQ1
    have hM9 : QM z F ad st9 H H1 := by rw [e99]; exact hM1
    have hp9 : p < nP st9 := by rw [e99]; exact hp
    have hr9 : st9 11 p = st 11 p ∧ st9 8 p = st 8 p := by rw [e99]; exact ⟨rfl, rfl⟩
    refine lv_aload_n hx hb dX2_walk_25 rfl (lv_at hl 2 rfl) ?_
    refine cv_X2_149 C (hQ9.p hp9) hS (m_X6_goOn z l (hQ9.p hp9) (hQ9.r hp9) (hQ9.aa (k := 5) (i := p) hp9) (by rw [hr9.1]; exact nI_ne0 hlen.2.1 (by omega))) (Nat.le_of_ble_eq_true rfl) hl.1 (Nat.le_of_ble_eq_true rfl) (by omega) (by omega) dX2_walk_26 (fun H1 locs h_26 hz_26 hS => ?_)
    rw [← (hQ9.inv.len hp9).1] at h_26
    have hM2 := hQ9.set8 hp9 (hQ9.inv.nx hp9) h_26
    have e10 : paNx st9 p = paNx st p := by unfold paNx; rw [hr9.1, hr9.2]
    exact hR _ _ _ _ _ _ dX2_walk_29 hS (by omega) (by omega) (by unfold paT; rw [← e9, ← e10]; exact hM9.tr hM2)

set_option maxHeartbeats 4000000 in
theorem m_X2_pass (z : Zt) (l : Launch) {H : Heap} {F : Nat → Prop} {ad : Nat → Nat → Nat} {st : St} {gh : Gh} (hQ : QW z F ad st gh H) : Kv z l yX2_pass cX2_pass 2 [.ref (ad 0 0)] H 8 0 0 (fun H1 => QM z F ad (passT st) H H1) := by
  refine en_Kv (own := RX2) (by decide) rfl (Nat.le_of_ble_eq_true rfl) ?_
  intro ag pp ev sS mM below meth cd ls Q C hin hS hl hR
  have hx := C.1.1
  have hb := C.1.2.1
  have hl : lv_has ls 2 [(0, .ref (ad 0 0))] := hl
  have hQ0 := hQ
  refine lv_iconst (v := 0) hx hb dX2_pass_0 (by decide) ?_
  refine lv_istore_n (lv' := [(1, _), (0, _)]) hx hb dX2_pass_1 rfl hl (by decide) rfl (fun ls hl => ?_)
  have L2 : ∀ (k9 : Nat) (k : Nat) (H3 : Heap) (locs : List Loc) (gh : Gh) (ls : Array Slot), k ≤ nC st → nC st + 1 ≤ k + k9 → QW z F ad (itTo (fun c s => actT s c) k st) gh H3 → QM z F ad (itTo (fun c s => actT s c) k st) H H3 → va_S (AA z) sS.heap H3 locs → lv_has ls 2 [(1, .int (nI k)), (0, .ref (ad 0 0))] → W pp l ev (RL 8 0 0) sS mM ag below meth cd H3 locs 0 0 Q (F0 mM 2 ls []) := by
    intro k9
    induction k9 with
    | zero =>
      intro k H3 locs gh ls hk0 hk1 hQ hM hS hl
      omega
    | succ k9 ih =>
      intro k H3 locs gh ls hk0 hk1 hQ hM hS hl
      obtain ⟨st1, e1⟩ : ∃ s, s = itTo (fun c s => actT s c) k st := ⟨_, rfl⟩
      have hrk : RK st1 st := by rw [e1]; exact RK.it (fun k s => RK.act s k) _ _
      rw [← e1] at hQ hM
      refine lv_iload_n hx hb dX2_pass_2 rfl (lv_at hl 0 rfl) ?_
      refine lv_aload_n hx hb dX2_pass_3 rfl (lv_at hl 1 rfl) ?_
      refine gf_X2_18 C hQ.q rfl dX2_pass_4 ?_
      refine cv_X2_36 C hQ.lc hS (m_J2_size z l hQ.lc) (Nat.le_of_ble_eq_true rfl) hl.1 (Nat.le_of_ble_eq_true rfl) (by omega) (by omega) dX2_pass_7 (fun r_7 h_7 => ?_)
      subst h_7
      rw [hrk.c]
      refine lv_icmp_ge (tgt := 71) hx hb dX2_pass_10 (by decide) (fun c_10 => ?_) (fun c_10 => ?_)
      · skip
        have hke : k = nC st := lp_end hk0 c_10 (by have := hQ0.nCi; omega)
        have eA9 : st1 = actsT st := by rw [e1, hke]; rfl
        rw [eA9] at hQ hM
        have hQa := hQ
        have hMa := hM
        refine lv_iconst (v := 0) hx hb dX2_pass_71 (by decide) ?_
        refine lv_istore_n (lv' := [(1, _), (0, _)]) hx hb dX2_pass_72 rfl hl (by decide) rfl (fun ls hl => ?_)
        have L73 : ∀ (k9 : Nat) (k : Nat) (H3 : Heap) (locs : List Loc) (gh : Gh) (ls : Array Slot), k ≤ nP st → nP st + 1 ≤ k + k9 → QW z F ad (itTo (fun p s => paT s p) k (actsT st)) gh H3 → QM z F ad (itTo (fun p s => paT s p) k (actsT st)) H H3 → va_S (AA z) sS.heap H3 locs → lv_has ls 2 [(1, .int (nI k)), (0, .ref (ad 0 0))] → W pp l ev (RL 8 0 0) sS mM ag below meth cd H3 locs 0 0 Q (F0 mM 73 ls []) := by
          intro k9
          induction k9 with
          | zero =>
            intro k H3 locs gh ls hk0 hk1 hQ hM hS hl
            omega
          | succ k9 ih =>
            intro k H3 locs gh ls hk0 hk1 hQ hM hS hl
            obtain ⟨st1, e1⟩ : ∃ s, s = itTo (fun p s => paT s p) k (actsT st) := ⟨_, rfl⟩
            have hrk : RK st1 st := by rw [e1]; exact (RK.it (fun k s => RK.pa s k) _ _).tr (RK.acts st)
            rw [← e1] at hQ hM
            refine lv_iload_n hx hb dX2_pass_73 rfl (lv_at hl 0 rfl) ?_
            refine lv_aload_n hx hb dX2_pass_74 rfl (lv_at hl 1 rfl) ?_
            refine gf_X2_22 C hQ.q rfl dX2_pass_75 ?_
            refine cv_X2_36 C hQ.lp hS (m_J2_size z l hQ.lp) (Nat.le_of_ble_eq_true rfl) hl.1 (Nat.le_of_ble_eq_true rfl) (by omega) (by omega) dX2_pass_78 (fun r_78 h_78 => ?_)
            subst h_78
            rw [hrk.p]
            refine lv_icmp_ge (tgt := 105) hx hb dX2_pass_81 (by decide) (fun c_81 => ?_) (fun c_81 => ?_)
            · skip
              have hke : k = nP st := lp_end hk0 c_81 (by have := hQ0.nPi; omega)
              have eB9 : st1 = walksT (actsT st) := by rw [e1, hke]; unfold walksT; rw [(RK.acts st).p]
              rw [eB9] at hQ hM
              have hQb := hQ
              have hMb := hM
              refine lv_iconst (v := 0) hx hb dX2_pass_105 (by decide) ?_
              refine lv_istore_n (lv' := [(1, _), (0, _)]) hx hb dX2_pass_106 rfl hl (by decide) rfl (fun ls hl => ?_)
              have L107 : ∀ (k9 : Nat) (k : Nat) (H3 : Heap) (locs : List Loc) (gh : Gh) (ls : Array Slot), k ≤ nC st → nC st + 1 ≤ k + k9 → QW z F ad (itTo (fun c s => ppT s c) k (walksT (actsT st))) gh H3 → QM z F ad (itTo (fun c s => ppT s c) k (walksT (actsT st))) H H3 → va_S (AA z) sS.heap H3 locs → lv_has ls 2 [(1, .int (nI k)), (0, .ref (ad 0 0))] → W pp l ev (RL 8 0 0) sS mM ag below meth cd H3 locs 0 0 Q (F0 mM 107 ls []) := by
                intro k9
                induction k9 with
                | zero =>
                  intro k H3 locs gh ls hk0 hk1 hQ hM hS hl
                  omega
                | succ k9 ih =>
                  intro k H3 locs gh ls hk0 hk1 hQ hM hS hl
                  obtain ⟨st1, e1⟩ : ∃ s, s = itTo (fun c s => ppT s c) k (walksT (actsT st)) := ⟨_, rfl⟩
                  have hrk : RK st1 st := by rw [e1]; exact (RK.it (fun k s => RK.pp s k) _ _).tr ((RK.walks _).tr (RK.acts st))
                  rw [← e1] at hQ hM
                  refine lv_iload_n hx hb dX2_pass_107 rfl (lv_at hl 0 rfl) ?_
                  refine lv_aload_n hx hb dX2_pass_108 rfl (lv_at hl 1 rfl) ?_
                  refine gf_X2_18 C hQ.q rfl dX2_pass_109 ?_
                  refine cv_X2_36 C hQ.lc hS (m_J2_size z l hQ.lc) (Nat.le_of_ble_eq_true rfl) hl.1 (Nat.le_of_ble_eq_true rfl) (by omega) (by omega) dX2_pass_112 (fun r_112 h_112 => ?_)
                  subst h_112
                  rw [hrk.c]
                  refine lv_icmp_ge (tgt := 189) hx hb dX2_pass_115 (by decide) (fun c_115 => ?_) (fun c_115 => ?_)
                  · skip
                    have hke : k = nC st := lp_end hk0 c_115 (by have := hQ0.nCi; omega)
                    have eC9 : st1 = shotT (walksT (actsT st)) := by rw [e1, hke]; unfold shotT; rw [(RK.walks _).c, (RK.acts st).c]
                    rw [eC9] at hQ hM
                    refine lv_aload_n hx hb dX2_pass_189 rfl (lv_at hl 1 rfl) ?_
                    refine lv_dup hx hb dX2_pass_190 rfl ?_
                    refine gf_X2_26 C hQ.q rfl dX2_pass_191 ?_
                    refine lv_iconst (v := 1) hx hb dX2_pass_194 (by decide) ?_
                    refine lv_iadd hx hb dX2_pass_195 ?_
                    refine pf_X2_26 C hQ.q (Nat.le_of_ble_eq_true rfl) rfl rfl hS (hQ.aa (k := 0) (i := 0) rfl) dX2_pass_196 (fun H1 locs hu hS => ?_)
                    have hM4 := hQ.set9 hu
                    exact hR _ _ _ _ _ _ dX2_pass_199 hS (by omega) (by omega) (hM.tr hM4)
                  · skip
                    have hk2 : k < nC st := lp_in hk0 c_115 (by have := hQ0.nCi; omega)
                    have hk : k < nC st1 := by rw [hrk.c]; exact hk2
                    refine lv_aload_n hx hb dX2_pass_118 rfl (lv_at hl 1 rfl) ?_
                    refine gf_X2_18 C hQ.q rfl dX2_pass_119 ?_
                    refine lv_iload_n hx hb dX2_pass_122 rfl (lv_at hl 0 rfl) ?_
                    refine cv_X2_40 C hQ.lc hS (m_getC z l hQ hk) (Nat.le_of_ble_eq_true rfl) hl.1 (Nat.le_of_ble_eq_true rfl) (by omega) (by omega) dX2_pass_123 (fun r_123 h_123 => ?_)
                    subst h_123
                    refine va_castE hx hb C.1.2.2.2.1 (C.1.2.2.2.2 _ q174) ((hQ.c hk).recv C.2.1 rfl) dX2_pass_126 ?_
                    refine cv_X2_59 C (hQ.c hk) hS (m_X5_isThere z l (hQ.c hk)) (Nat.le_of_ble_eq_true rfl) hl.1 (Nat.le_of_ble_eq_true rfl) (by omega) (by omega) dX2_pass_129 (fun r_129 h_129 => ?_)
                    subst h_129
                    have hnx : itTo (fun c s => ppT s c) (k + 1) (walksT (actsT st)) = ppT st1 k := by rw [e1]; rfl
                    refine lv_if_eq (tgt := 183) hx hb dX2_pass_132 (by decide) (fun c_132 => ?_) (fun c_132 => ?_)
                    · skip
                      have hth := bI_f c_132
                      have hat : ppT st1 k = st1 := by unfold ppT; rw [hth]; rfl
                      have hQ5 : QW z F ad (itTo (fun c s => ppT s c) (k + 1) (walksT (actsT st))) gh H3 := by rw [hnx, hat]; exact hQ
                      have hM5 : QM z F ad (itTo (fun c s => ppT s c) (k + 1) (walksT (actsT st))) H H3 := by rw [hnx, hat]; exact hM
                      refine lv_iinc (lv' := [(1, _), (0, _)]) hx hb dX2_pass_183 hl (k := 0) rfl (v := nI (k + 1)) (nI_1 k) (by decide) rfl (fun ls hl => ?_)
                      refine lv_goto (tgt := 107) hx hb dX2_pass_186 (by decide) ?_
                      exact ih (k + 1) _ _ _ _ (by omega) (by omega) hQ5 hM5 hS hl
                    · skip
                      have hth := bI_t c_132
                      refine lv_aload_n hx hb dX2_pass_135 rfl (lv_at hl 1 rfl) ?_
                      refine gf_X2_18 C hQ.q rfl dX2_pass_136 ?_
                      refine lv_iload_n hx hb dX2_pass_139 rfl (lv_at hl 0 rfl) ?_
                      refine cv_X2_40 C hQ.lc hS (m_getC z l hQ hk) (Nat.le_of_ble_eq_true rfl) hl.1 (Nat.le_of_ble_eq_true rfl) (by omega) (by omega) dX2_pass_140 (fun r_140 h_140 => ?_)
                      subst h_140
                      refine va_castE hx hb C.1.2.2.2.1 (C.1.2.2.2.2 _ q174) ((hQ.c hk).recv C.2.1 rfl) dX2_pass_143 ?_
                      refine lv_iconst (v := 0) hx hb dX2_pass_146 (by decide) ?_
                      refine lv_aload_n hx hb dX2_pass_147 rfl (lv_at hl 1 rfl) ?_
                      refine gf_X2_18 C hQ.q rfl dX2_pass_148 ?_
                      refine lv_iload_n hx hb dX2_pass_151 rfl (lv_at hl 0 rfl) ?_
                      refine cv_X2_40 C hQ.lc hS (m_getC z l hQ hk) (Nat.le_of_ble_eq_true rfl) hl.1 (Nat.le_of_ble_eq_true rfl) (by omega) (by omega) dX2_pass_152 (fun r_152 h_152 => ?_)
                      subst h_152
                      refine va_castE hx hb C.1.2.2.2.1 (C.1.2.2.2.2 _ q174) ((hQ.c hk).recv C.2.1 rfl) dX2_pass_155 ?_
                      refine gf_X2_79 C (hQ.c hk) rfl dX2_pass_158 ?_
                      refine lv_aload_n hx hb dX2_pass_161 rfl (lv_at hl 1 rfl) ?_
                      refine lv_aload_n hx hb dX2_pass_162 rfl (lv_at hl 1 rfl) ?_
                      refine gf_X2_18 C hQ.q rfl dX2_pass_163 ?_
                      refine lv_iload_n hx hb dX2_pass_166 rfl (lv_at hl 0 rfl) ?_
                      refine cv_X2_40 C hQ.lc hS (m_getC z l hQ hk) (Nat.le_of_ble_eq_true rfl) hl.1 (Nat.le_of_ble_eq_true rfl) (by omega) (by omega) dX2_pass_167 (fun r_167 h_167 => ?_)
                      subst h_167
                      refine va_castE hx hb C.1.2.2.2.1 (C.1.2.2.2.2 _ q174) ((hQ.c hk).recv C.2.1 rfl) dX2_pass_170 ?_
                      refine cv_X2_139 C hQ.q hS (m_X2_seenBy z l hQ hk) (Nat.le_of_ble_eq_true rfl) hl.1 (Nat.le_of_ble_eq_true rfl) (by omega) (by omega) dX2_pass_173 (fun r_173 h_173 => ?_)
                      subst h_173
                      refine lv_isub hx hb dX2_pass_176 ?_
                      refine g_max C (C.1.2.2.2.2 _ q201) (Nat.le_of_ble_eq_true rfl) hl.1 (Nat.le_of_ble_eq_true rfl) (by omega) (by omega) dX2_pass_177 ?_
                      refine pf_X2_79 C (hQ.c hk) (Nat.le_of_ble_eq_true rfl) rfl rfl hS (hQ.aa (k := 4) (i := k) hk) dX2_pass_180 (fun H1 locs hu hS => ?_)
                      have hat : ppT st1 k = sSet st1 2 k (mx 0 (st1 2 k - sumTo (fun p => bI (seB st1 p k)) (nP st1))) := by unfold ppT; rw [hth]; rfl
                      have hM4 := hQ.set2 hk (shot_bd (hQ.inv.2.2.1 k hk).2.1 (fun p => bI_01 _) (by have := hQ.nPi; omega)) hu
                      obtain ⟨gh5, hQ6⟩ := hM4.1
                      have hQ5 : QW z F ad (itTo (fun c s => ppT s c) (k + 1) (walksT (actsT st))) gh5 H1 := by rw [hnx, hat]; exact hQ6
                      have hM5 : QM z F ad (itTo (fun c s => ppT s c) (k + 1) (walksT (actsT st))) H H1 := by rw [hnx, hat]; exact hM.tr hM4
                      refine lv_iinc (lv' := [(1, _), (0, _)]) hx hb dX2_pass_183 hl (k := 0) rfl (v := nI (k + 1)) (nI_1 k) (by decide) rfl (fun ls hl => ?_)
                      refine lv_goto (tgt := 107) hx hb dX2_pass_186 (by decide) ?_
                      exact ih (k + 1) _ _ _ _ (by omega) (by omega) hQ5 hM5 hS hl
              exact L107 (nC st + 1) 0 _ _ _ _ (by omega) (by omega) hQb hMb hS (by rw [nI_0]; exact hl)
            · skip
              have hk2 : k < nP st := lp_in hk0 c_81 (by have := hQ0.nPi; omega)
              have hk : k < nP st1 := by rw [hrk.p]; exact hk2
              refine lv_aload_n hx hb dX2_pass_84 rfl (lv_at hl 1 rfl) ?_
              refine lv_aload_n hx hb dX2_pass_85 rfl (lv_at hl 1 rfl) ?_
              refine gf_X2_22 C hQ.q rfl dX2_pass_86 ?_
              refine lv_iload_n hx hb dX2_pass_89 rfl (lv_at hl 0 rfl) ?_
              refine cv_X2_40 C hQ.lp hS (m_getP z l hQ hk) (Nat.le_of_ble_eq_true rfl) hl.1 (Nat.le_of_ble_eq_true rfl) (by omega) (by omega) dX2_pass_90 (fun r_90 h_90 => ?_)
              subst h_90
              refine va_castE hx hb C.1.2.2.2.1 (C.1.2.2.2.2 _ q228) ((hQ.p hk).recv C.2.1 rfl) dX2_pass_93 ?_
              refine cv_X2_135 C hQ.q hS (m_X2_walk z l hQ hk) (Nat.le_of_ble_eq_true rfl) hl.1 (Nat.le_of_ble_eq_true rfl) (by omega) (by omega) dX2_pass_96 (fun H1 locs h_96 hz_96 hS => ?_)
              have hnx : itTo (fun p s => paT s p) (k + 1) (actsT st) = paT st1 k := by rw [e1]; rfl
              obtain ⟨gh5, hQ6⟩ := h_96.1
              have hQ5 : QW z F ad (itTo (fun p s => paT s p) (k + 1) (actsT st)) gh5 H1 := by rw [hnx]; exact hQ6
              have hM5 : QM z F ad (itTo (fun p s => paT s p) (k + 1) (actsT st)) H H1 := by rw [hnx]; exact hM.tr h_96
              refine lv_iinc (lv' := [(1, _), (0, _)]) hx hb dX2_pass_99 hl (k := 0) rfl (v := nI (k + 1)) (nI_1 k) (by decide) rfl (fun ls hl => ?_)
              refine lv_goto (tgt := 73) hx hb dX2_pass_102 (by decide) ?_
              exact ih (k + 1) _ _ _ _ (by omega) (by omega) hQ5 hM5 hS hl
        exact L73 (nP st + 1) 0 _ _ _ _ (by omega) (by omega) hQa hMa hS (by rw [nI_0]; exact hl)
      · skip
        have hk2 : k < nC st := lp_in hk0 c_10 (by have := hQ0.nCi; omega)
        have hk : k < nC st1 := by rw [hrk.c]; exact hk2
        refine lv_aload_n hx hb dX2_pass_13 rfl (lv_at hl 1 rfl) ?_
        refine gf_X2_18 C hQ.q rfl dX2_pass_14 ?_
        refine lv_iload_n hx hb dX2_pass_17 rfl (lv_at hl 0 rfl) ?_
        refine cv_X2_40 C hQ.lc hS (m_getC z l hQ hk) (Nat.le_of_ble_eq_true rfl) hl.1 (Nat.le_of_ble_eq_true rfl) (by omega) (by omega) dX2_pass_18 (fun r_18 h_18 => ?_)
        subst h_18
        refine va_castE hx hb C.1.2.2.2.1 (C.1.2.2.2.2 _ q174) ((hQ.c hk).recv C.2.1 rfl) dX2_pass_21 ?_
        refine cv_X2_59 C (hQ.c hk) hS (m_X5_isThere z l (hQ.c hk)) (Nat.le_of_ble_eq_true rfl) hl.1 (Nat.le_of_ble_eq_true rfl) (by omega) (by omega) dX2_pass_24 (fun r_24 h_24 => ?_)
        subst h_24
        refine lv_if_eq (tgt := 65) hx hb dX2_pass_27 (by decide) (fun c_27 => ?_) (fun c_27 => ?_)
        · skip
          have hth := bI_f c_27
          have hat : actT st1 k = st1 := by unfold actT; rw [hth]; rfl
          have hnx : itTo (fun c s => actT s c) (k + 1) st = actT st1 k := by rw [e1]; rfl
          have hQ5 : QW z F ad (itTo (fun c s => actT s c) (k + 1) st) gh H3 := by rw [hnx, hat]; exact hQ
          have hM5 : QM z F ad (itTo (fun c s => actT s c) (k + 1) st) H H3 := by rw [hnx, hat]; exact hM
          refine lv_iinc (lv' := [(1, _), (0, _)]) hx hb dX2_pass_65 hl (k := 0) rfl (v := nI (k + 1)) (nI_1 k) (by decide) rfl (fun ls hl => ?_)
          refine lv_goto (tgt := 2) hx hb dX2_pass_68 (by decide) ?_
          exact ih (k + 1) _ _ _ _ (by omega) (by omega) hQ5 hM5 hS hl
        · skip
          have hth := bI_t c_27
          refine lv_aload_n hx hb dX2_pass_30 rfl (lv_at hl 1 rfl) ?_
          refine gf_X2_18 C hQ.q rfl dX2_pass_31 ?_
          refine lv_iload_n hx hb dX2_pass_34 rfl (lv_at hl 0 rfl) ?_
          refine cv_X2_40 C hQ.lc hS (m_getC z l hQ hk) (Nat.le_of_ble_eq_true rfl) hl.1 (Nat.le_of_ble_eq_true rfl) (by omega) (by omega) dX2_pass_35 (fun r_35 h_35 => ?_)
          subst h_35
          refine va_castE hx hb C.1.2.2.2.1 (C.1.2.2.2.2 _ q174) ((hQ.c hk).recv C.2.1 rfl) dX2_pass_38 ?_
          refine gf_X2_85 C (hQ.c hk) rfl dX2_pass_41 ?_
          refine cv_X2_128 C (hQ.lo hk) hS (m_J2_isEmpty z l (hQ.lo hk)) (Nat.le_of_ble_eq_true rfl) hl.1 (Nat.le_of_ble_eq_true rfl) (by omega) (by omega) dX2_pass_44 (fun r_44 h_44 => ?_)
          subst h_44
          have hmc := hQ.mCi hk
          refine lv_if_ne (tgt := 65) hx hb dX2_pass_47 (by decide) (fun c_47 => ?_) (fun c_47 => ?_)
          · skip
            have hm0 : mC st1 k = 0 := by
              rcases Nat.eq_zero_or_pos (mC st1 k) with h | h
              · exact h
              · exact absurd (if_neg (nI_ne0 h (by omega))) c_47
            have hat : actT st1 k = st1 := by unfold actT; rw [hm0, hth]; rfl
            have hnx : itTo (fun c s => actT s c) (k + 1) st = actT st1 k := by rw [e1]; rfl
            have hQ5 : QW z F ad (itTo (fun c s => actT s c) (k + 1) st) gh H3 := by rw [hnx, hat]; exact hQ
            have hM5 : QM z F ad (itTo (fun c s => actT s c) (k + 1) st) H H3 := by rw [hnx, hat]; exact hM
            refine lv_iinc (lv' := [(1, _), (0, _)]) hx hb dX2_pass_65 hl (k := 0) rfl (v := nI (k + 1)) (nI_1 k) (by decide) rfl (fun ls hl => ?_)
            refine lv_goto (tgt := 2) hx hb dX2_pass_68 (by decide) ?_
            exact ih (k + 1) _ _ _ _ (by omega) (by omega) hQ5 hM5 hS hl
          · skip
            have hm0 : 0 < mC st1 k := by
              rcases Nat.eq_zero_or_pos (mC st1 k) with h | h
              · rw [h] at c_47
                exact absurd c_47 (by decide)
              · exact h
            have hat : actT st1 k = obT st1 k := by unfold actT; rw [hth, show (mC st1 k == 0) = false from by simp; omega]; rfl
            refine lv_aload_n hx hb dX2_pass_50 rfl (lv_at hl 1 rfl) ?_
            refine lv_aload_n hx hb dX2_pass_51 rfl (lv_at hl 1 rfl) ?_
            refine gf_X2_18 C hQ.q rfl dX2_pass_52 ?_
            refine lv_iload_n hx hb dX2_pass_55 rfl (lv_at hl 0 rfl) ?_
            refine cv_X2_40 C hQ.lc hS (m_getC z l hQ hk) (Nat.le_of_ble_eq_true rfl) hl.1 (Nat.le_of_ble_eq_true rfl) (by omega) (by omega) dX2_pass_56 (fun r_56 h_56 => ?_)
            subst h_56
            refine va_castE hx hb C.1.2.2.2.1 (C.1.2.2.2.2 _ q174) ((hQ.c hk).recv C.2.1 rfl) dX2_pass_59 ?_
            refine cv_X2_131 C hQ.q hS (m_X2_obey z l hQ hk hm0) (Nat.le_of_ble_eq_true rfl) hl.1 (Nat.le_of_ble_eq_true rfl) (by omega) (by omega) dX2_pass_62 (fun H1 locs h_62 hz_62 hS => ?_)
            have hnx : itTo (fun c s => actT s c) (k + 1) st = actT st1 k := by rw [e1]; rfl
            obtain ⟨gh5, hQ6⟩ := h_62.1
            have hQ5 : QW z F ad (itTo (fun c s => actT s c) (k + 1) st) gh5 H1 := by rw [hnx, hat]; exact hQ6
            have hM5 : QM z F ad (itTo (fun c s => actT s c) (k + 1) st) H H1 := by rw [hnx, hat]; exact hM.tr h_62
            refine lv_iinc (lv' := [(1, _), (0, _)]) hx hb dX2_pass_65 hl (k := 0) rfl (v := nI (k + 1)) (nI_1 k) (by decide) rfl (fun ls hl => ?_)
            refine lv_goto (tgt := 2) hx hb dX2_pass_68 (by decide) ?_
            exact ih (k + 1) _ _ _ _ (by omega) (by omega) hQ5 hM5 hS hl
  exact L2 (nC st + 1) 0 _ _ gh _ (by omega) (by omega) hQ (QM.rf hQ) hS (by rw [nI_0]; exact hl)

