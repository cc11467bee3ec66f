set_option maxRecDepth 100000
/-! orders carried out -/
def pushB (st : St) (c : Nat) (frm to : Int32) : Bool := !(decide (st 2 c < 2 * st 0 (cN frm))) && (laB st to && (!(decide (3 < st 0 (cN to) + st 0 (cN frm))) && !(bzB st to)))
def pushS (st : St) (frm to : Int32) : St := sSet (sSet st 0 (cN to) (st 0 (cN to) + st 0 (cN frm))) 0 (cN frm) 0
def pushT (st : St) (c : Nat) (frm to : Int32) : St := cond (pushB st c frm to) (pushS st frm to) st
def goB (st : St) (c : Nat) (d : Int32) : Bool := laB st (bes (st 1 c) d) && (!(decide (0 < st 0 (cN (bes (st 1 c) d)))) || pushB st c (bes (st 1 c) d) (bes (bes (st 1 c) d) d))
def goT (st : St) (c : Nat) (d : Int32) : St := cond (laB st (bes (st 1 c) d)) (cond (decide (0 < st 0 (cN (bes (st 1 c) d)))) (cond (pushB st c (bes (st 1 c) d) (bes (bes (st 1 c) d) d)) (sSet (pushS st (bes (st 1 c) d) (bes (bes (st 1 c) d) d)) 1 c (bes (st 1 c) d)) st) (sSet st 1 c (bes (st 1 c) d))) st
def raB (st : St) (c : Nat) (d : Int32) : Bool := !(decide (st 2 c < 3)) && (laB st (bes (st 1 c) d) && (!(st 0 (cN (bes (st 1 c) d)) == 3) && !(bzB st (bes (st 1 c) d))))
def raT (st : St) (c : Nat) (d : Int32) : St := cond (raB st c d) (sSet st 0 (cN (bes (st 1 c) d)) (st 0 (cN (bes (st 1 c) d)) + 1)) st
def puB (st : St) (c : Nat) (d : Int32) : Bool := laB st (bes (st 1 c) d) && !(st 0 (cN (bes (st 1 c) d)) == 0)
def puT (st : St) (c : Nat) (d : Int32) : St := cond (puB st c d) (sSet st 0 (cN (bes (st 1 c) d)) (st 0 (cN (bes (st 1 c) d)) - 1)) st
theorem laB_bd {st : St} {x : Int32} (h : laB st x = true) (hx : Cl x) : Bd x 108 ∧ ¬ st 0 (cN x) = -1 := by
  unfold laB at h
  simp only [Bool.and_eq_true, Bool.not_eq_true', beq_eq_false_iff_ne] at h
  exact ⟨hx.resolve_left h.1, h.2⟩
theorem Inv.cv {st : St} (h : Inv st) {x : Int32} (hx : Bd x 108) : CV (st 0 (cN x)) := h.2.1 _ (hx.cl (by omega)).2

set_option maxHeartbeats 4000000 in
theorem m_X2_pushes (z : Zt) (l : Launch) {H : Heap} {F : Nat → Prop} {ad : Nat → Nat → Nat} {st : St} {gh : Gh} (hQ : QW z F ad st gh H) {c : Nat} (hc : c < nC st) {frm to : Int32} (hf : Bd frm 108) (hp : 0 < st 0 (cN frm)) (ht : Cl to) : Ki z l yX2_pushes cX2_pushes 5 .boolean [.ref (ad 0 0), .ref (ad 4 c), .int frm, .int to] H 5 0 0 (fun r H1 => r = bI (pushB st c frm to) ∧ QM z F ad (pushT st c frm to) H H1) := by
  refine en_Ki (own := RX2) (by decide) rfl (Nat.le_of_ble_eq_true rfl) ?_
  intro ag pp ev sS mM below meth cd ls Q C hS hl hR
  have hx := C.1.1
  have hb := C.1.2.1
  have hl : lv_has ls 5 [(0, .ref (ad 0 0)), (1, .ref (ad 4 c)), (2, .int frm), (3, .int to)] := hl
  refine lv_aload_n hx hb dX2_pushes_0 rfl (lv_at hl 0 rfl) ?_
  refine gf_X2_9 C hQ.q rfl dX2_pushes_1 ?_
  refine lv_iload_n hx hb dX2_pushes_4 rfl (lv_at hl 2 rfl) ?_
  refine g_iald C hQ.cs (hf.in (by omega) (by omega)) dX2_pushes_5 ?_
  refine lv_seti (y := st 0 (cN frm)) rfl ?_
  refine lv_istore (lv' := [(4, _), (0, _), (1, _), (2, _), (3, _)]) hx hb dX2_pushes_6 hl (by decide) rfl (fun ls hl => ?_)
  refine lv_aload_n hx hb dX2_pushes_8 rfl (lv_at hl 2 rfl) ?_
  refine gf_X2_79 C (hQ.c hc) rfl dX2_pushes_9 ?_
  refine lv_iconst (v := 2) hx hb dX2_pushes_12 (by decide) ?_
  refine lv_iload hx hb dX2_pushes_13 (lv_at hl 0 rfl) ?_
  refine lv_imul hx hb dX2_pushes_15 ?_
  refine lv_icmp_lt (tgt := 48) hx hb dX2_pushes_16 (by decide) (fun c_16 => ?_) (fun c_16 => ?_)
  · skip
    have hpb : pushB st c frm to = false := by simp [pushB, c_16]
    refine lv_iconst (v := 0) hx hb dX2_pushes_48 (by decide) ?_
    exact hR _ _ _ _ _ _ _ dX2_pushes_49 rfl hS (by omega) (by omega) (⟨by rw [hpb]; rfl, by unfold pushT; rw [hpb]; exact QM.rf hQ⟩)
  · skip
    refine lv_aload_n hx hb dX2_pushes_19 rfl (lv_at hl 1 rfl) ?_
    refine lv_iload_n hx hb dX2_pushes_20 rfl (lv_at hl 4 rfl) ?_
    refine cv_X2_71 C hQ.q hS (m_X2_isLane z l hQ ht) (Nat.le_of_ble_eq_true rfl) hl.1 (Nat.le_of_ble_eq_true rfl) (by omega) (by omega) dX2_pushes_21 (fun r_21 h_21 => ?_)
    subst h_21
    refine lv_if_eq (tgt := 48) hx hb dX2_pushes_24 (by decide) (fun c_24 => ?_) (fun c_24 => ?_)
    · skip
      have hla := bI_f c_24
      have hpb : pushB st c frm to = false := by simp [pushB, hla]
      refine lv_iconst (v := 0) hx hb dX2_pushes_48 (by decide) ?_
      exact hR _ _ _ _ _ _ _ dX2_pushes_49 rfl hS (by omega) (by omega) (⟨by rw [hpb]; rfl, by unfold pushT; rw [hpb]; exact QM.rf hQ⟩)
    · skip
      have hla := bI_t c_24
      have htb := laB_bd hla ht
      refine lv_aload_n hx hb dX2_pushes_27 rfl (lv_at hl 1 rfl) ?_
      refine gf_X2_9 C hQ.q rfl dX2_pushes_28 ?_
      refine lv_iload_n hx hb dX2_pushes_31 rfl (lv_at hl 4 rfl) ?_
      refine g_iald C hQ.cs (htb.1.in (by omega) (by omega)) dX2_pushes_32 ?_
      refine lv_seti (y := st 0 (cN to)) rfl ?_
      refine lv_iload hx hb dX2_pushes_33 (lv_at hl 0 rfl) ?_
      refine lv_iadd hx hb dX2_pushes_35 ?_
      refine lv_iconst (v := 3) hx hb dX2_pushes_36 (by decide) ?_
      refine lv_icmp_gt (tgt := 48) hx hb dX2_pushes_37 (by decide) (fun c_37 => ?_) (fun c_37 => ?_)
      · skip
        have hpb : pushB st c frm to = false := by simp [pushB, c_37]
        refine lv_iconst (v := 0) hx hb dX2_pushes_48 (by decide) ?_
        exact hR _ _ _ _ _ _ _ dX2_pushes_49 rfl hS (by omega) (by omega) (⟨by rw [hpb]; rfl, by unfold pushT; rw [hpb]; exact QM.rf hQ⟩)
      · skip
        refine lv_aload_n hx hb dX2_pushes_40 rfl (lv_at hl 1 rfl) ?_
        refine lv_iload_n hx hb dX2_pushes_41 rfl (lv_at hl 4 rfl) ?_
        refine cv_X2_82 C hQ.q hS (m_X2_isTaken z l hQ) (Nat.le_of_ble_eq_true rfl) hl.1 (Nat.le_of_ble_eq_true rfl) (by omega) (by omega) dX2_pushes_42 (fun r_42 h_42 => ?_)
        subst h_42
        refine lv_if_eq (tgt := 50) hx hb dX2_pushes_45 (by decide) (fun c_45 => ?_) (fun c_45 => ?_)
        · skip
          have hbz := bI_f c_45
          have hpb : pushB st c frm to = true := by simp only [pushB, hla, hbz, decide_eq_false c_16, decide_eq_false c_37]; rfl
          refine lv_aload_n hx hb dX2_pushes_50 rfl (lv_at hl 1 rfl) ?_
          refine gf_X2_9 C hQ.q rfl dX2_pushes_51 ?_
          refine lv_iload_n hx hb dX2_pushes_54 rfl (lv_at hl 4 rfl) ?_
          refine lv_dup2_11 hx hb dX2_pushes_55 rfl rfl ?_
          refine g_iald C hQ.cs (htb.1.in (by omega) (by omega)) dX2_pushes_56 ?_
          refine lv_iload hx hb dX2_pushes_57 (lv_at hl 0 rfl) ?_
          refine lv_iadd hx hb dX2_pushes_59 ?_
          refine g_iast C hQ.cs (htb.1.in (by omega) (by omega)) hS (hQ.aa (k := 1) (i := 0) rfl) dX2_pushes_60 (fun H1 locs hu hS => ?_)
          have hM1 := hQ.set0 (cv_push (hQ.inv.cv htb.1) (hQ.inv.cv hf) htb.2 hp c_37) hu
          obtain ⟨gh1, hQ1⟩ := hM1.1
          refine lv_aload_n hx hb dX2_pushes_61 rfl (lv_at hl 1 rfl) ?_
          refine gf_X2_9 C hQ1.q rfl dX2_pushes_62 ?_
          refine lv_iload_n hx hb dX2_pushes_65 rfl (lv_at hl 3 rfl) ?_
          refine lv_iconst (v := 0) hx hb dX2_pushes_66 (by decide) ?_
          refine g_iast C hQ1.cs (hf.in (by omega) (by omega)) hS (hQ1.aa (k := 1) (i := 0) rfl) dX2_pushes_67 (fun H1 locs hu hS => ?_)
          have hM2 := hQ1.set0 cv_0 hu
          refine lv_iconst (v := 1) hx hb dX2_pushes_68 (by decide) ?_
          exact hR _ _ _ _ _ _ _ dX2_pushes_69 rfl hS (by omega) (by omega) (⟨by rw [hpb]; rfl, by unfold pushT; rw [hpb]; exact hM1.tr hM2⟩)
        · skip
          have hbz := bI_t c_45
          have hpb : pushB st c frm to = false := by simp [pushB, hbz]
          refine lv_iconst (v := 0) hx hb dX2_pushes_48 (by decide) ?_
          exact hR _ _ _ _ _ _ _ dX2_pushes_49 rfl hS (by omega) (by omega) (⟨by rw [hpb]; rfl, by unfold pushT; rw [hpb]; exact QM.rf hQ⟩)

set_option maxHeartbeats 4000000 in
theorem m_X2_goes (z : Zt) (l : Launch) {H : Heap} {F : Nat → Prop} {ad : Nat → Nat → Nat} {st : St} {gh : Gh} (hQ : QW z F ad st gh H) {c : Nat} (hc : c < nC st) {d : Int32} (hd : Bd d 4) : Ki z l yX2_goes cX2_goes 4 .boolean [.ref (ad 0 0), .ref (ad 4 c), .int d] H 6 0 0 (fun r H1 => r = bI (goB st c d) ∧ QM z F ad (goT st c d) H H1) := by
  refine en_Ki (own := RX2) (by decide) rfl (Nat.le_of_ble_eq_true rfl) ?_
  intro ag pp ev sS mM below meth cd ls Q C hS hl hR
  have hx := C.1.1
  have hb := C.1.2.1
  have hl : lv_has ls 4 [(0, .ref (ad 0 0)), (1, .ref (ad 4 c)), (2, .int d)] := hl
  have hbc := (hQ.inv.2.2.1 c hc).1
  have hcl := bes_cl hbc hd
  refine lv_aload_n hx hb dX2_goes_0 rfl (lv_at hl 1 rfl) ?_
  refine gf_X2_63 C (hQ.c hc) rfl dX2_goes_1 ?_
  refine lv_iload_n hx hb dX2_goes_4 rfl (lv_at hl 2 rfl) ?_
  refine cv_X2_67 C hS (m_X1_beside z l) (Nat.le_of_ble_eq_true rfl) hl.1 (Nat.le_of_ble_eq_true rfl) (by omega) (by omega) dX2_goes_5 (fun r_5 h_5 => ?_)
  subst h_5
  refine lv_istore_n (lv' := [(3, _), (0, _), (1, _), (2, _)]) hx hb dX2_goes_8 rfl hl (by decide) rfl (fun ls hl => ?_)
  refine lv_aload_n hx hb dX2_goes_9 rfl (lv_at hl 1 rfl) ?_
  refine lv_iload_n hx hb dX2_goes_10 rfl (lv_at hl 0 rfl) ?_
  refine cv_X2_71 C hQ.q hS (m_X2_isLane z l hQ hcl) (Nat.le_of_ble_eq_true rfl) hl.1 (Nat.le_of_ble_eq_true rfl) (by omega) (by omega) dX2_goes_11 (fun r_11 h_11 => ?_)
  subst h_11
  refine lv_if_ne (tgt := 19) hx hb dX2_goes_14 (by decide) (fun c_14 => ?_) (fun c_14 => ?_)
  · skip
    have hla := bI_t c_14
    have htb := laB_bd hla hcl
    refine lv_aload_n hx hb dX2_goes_19 rfl (lv_at hl 1 rfl) ?_
    refine gf_X2_9 C hQ.q rfl dX2_goes_20 ?_
    refine lv_iload_n hx hb dX2_goes_23 rfl (lv_at hl 0 rfl) ?_
    refine g_iald C hQ.cs (htb.1.in (by omega) (by omega)) dX2_goes_24 ?_
    refine lv_seti (y := st 0 (cN (bes (st 1 c) d))) rfl ?_
    refine lv_if_le (tgt := 44) hx hb dX2_goes_25 (by decide) (fun c_25 => ?_) (fun c_25 => ?_)
    · skip
      have hps : decide (0 < st 0 (cN (bes (st 1 c) d))) = false := decide_eq_false (Int32.not_lt.mpr c_25)
      obtain ⟨st9, e9⟩ : ∃ s, s = st := ⟨_, rfl⟩
      have hQ9 : QW z F ad st9 gh H := by rw [e9]; exact hQ
      have hM9 : QM z F ad st9 H H := QM.rf hQ9
      have hc9 : c < nC st9 := by rw [e9]; exact hc
      have hgB : goB st c d = true := by unfold goB; rw [hla, hps]; rfl
      have hgT : goT st c d = sSet st9 1 c (bes (st 1 c) d) := by unfold goT; rw [hla, hps, e9]; rfl
      refine lv_aload_n hx hb dX2_goes_44 rfl (lv_at hl 2 rfl) ?_
      refine lv_iload_n hx hb dX2_goes_45 rfl (lv_at hl 0 rfl) ?_
      refine pf_X2_63 C (hQ9.c hc9) (Nat.le_of_ble_eq_true rfl) rfl rfl hS (hQ9.aa (k := 4) (i := c) hc9) dX2_goes_46 (fun H1 locs hu hS => ?_)
      have hM2 := hQ9.set1 hc9 htb.1 hu
      refine lv_iconst (v := 1) hx hb dX2_goes_49 (by decide) ?_
      exact hR _ _ _ _ _ _ _ dX2_goes_50 rfl hS (by omega) (by omega) (⟨by rw [hgB]; rfl, by rw [hgT]; exact hM9.tr hM2⟩)
    · skip
      have hpos := Int32.not_le.mp c_25
      have hps := decide_eq_true hpos
      refine lv_aload_n hx hb dX2_goes_28 rfl (lv_at hl 1 rfl) ?_
      refine lv_aload_n hx hb dX2_goes_29 rfl (lv_at hl 2 rfl) ?_
      refine lv_iload_n hx hb dX2_goes_30 rfl (lv_at hl 0 rfl) ?_
      refine lv_iload_n hx hb dX2_goes_31 rfl (lv_at hl 0 rfl) ?_
      refine lv_iload_n hx hb dX2_goes_32 rfl (lv_at hl 3 rfl) ?_
      refine cv_X2_67 C hS (m_X1_beside z l) (Nat.le_of_ble_eq_true rfl) hl.1 (Nat.le_of_ble_eq_true rfl) (by omega) (by omega) dX2_goes_33 (fun r_33 h_33 => ?_)
      subst h_33
      refine cv_X2_75 C hQ.q hS (m_X2_pushes z l hQ hc htb.1 hpos (bes_cl htb.1 hd)) (Nat.le_of_ble_eq_true rfl) hl.1 (Nat.le_of_ble_eq_true rfl) (by omega) (by omega) dX2_goes_36 (fun r_36 H1 locs h_36 hz_36 hS => ?_)
      obtain ⟨h9, hM1⟩ := h_36
      subst h9
      obtain ⟨gh1, hQ1⟩ := hM1.1
      refine lv_if_ne (tgt := 44) hx hb dX2_goes_39 (by decide) (fun c_39 => ?_) (fun c_39 => ?_)
      · skip
        have hpb := bI_t c_39
        unfold pushT at hM1 hQ1
        rw [hpb] at hM1 hQ1
        obtain ⟨st9, e9⟩ : ∃ s, s = pushS st (bes (st 1 c) d) (bes (bes (st 1 c) d) d) := ⟨_, rfl⟩
        have hQ9 : QW z F ad st9 gh1 H1 := by rw [e9]; exact hQ1
        have hM9 : QM z F ad st9 H H1 := by rw [e9]; exact hM1
        have hc9 : c < nC st9 := by rw [e9]; exact hc
        have hgB : goB st c d = true := by unfold goB; rw [hla, hps, hpb]; rfl
        have hgT : goT st c d = sSet st9 1 c (bes (st 1 c) d) := by unfold goT; rw [hla, hps, hpb, e9]; rfl
        refine lv_aload_n hx hb dX2_goes_44 rfl (lv_at hl 2 rfl) ?_
        refine lv_iload_n hx hb dX2_goes_45 rfl (lv_at hl 0 rfl) ?_
        refine pf_X2_63 C (hQ9.c hc9) (Nat.le_of_ble_eq_true rfl) rfl rfl hS (hQ9.aa (k := 4) (i := c) hc9) dX2_goes_46 (fun H1 locs hu hS => ?_)
        have hM2 := hQ9.set1 hc9 htb.1 hu
        refine lv_iconst (v := 1) hx hb dX2_goes_49 (by decide) ?_
        exact hR _ _ _ _ _ _ _ dX2_goes_50 rfl hS (by omega) (by omega) (⟨by rw [hgB]; rfl, by rw [hgT]; exact hM9.tr hM2⟩)
      · skip
        have hpb := bI_f c_39
        unfold pushT at hM1
        rw [hpb] at hM1
        refine lv_iconst (v := 0) hx hb dX2_goes_42 (by decide) ?_
        exact hR _ _ _ _ _ _ _ dX2_goes_43 rfl hS (by omega) (by omega) (⟨by unfold goB; rw [hla, hps, hpb]; rfl, by unfold goT; rw [hla, hps, hpb]; exact hM1⟩)
  · skip
    have hla := bI_f c_14
    refine lv_iconst (v := 0) hx hb dX2_goes_17 (by decide) ?_
    exact hR _ _ _ _ _ _ _ dX2_goes_18 rfl hS (by omega) (by omega) (⟨by unfold goB; rw [hla]; rfl, by unfold goT; rw [hla]; exact QM.rf hQ⟩)

set_option maxHeartbeats 4000000 in
theorem m_X2_raises (z : Zt) (l : Launch) {H : Heap} {F : Nat → Prop} {ad : Nat → Nat → Nat} {st : St} {gh : Gh} (hQ : QW z F ad st gh H) {c : Nat} (hc : c < nC st) {d : Int32} (hd : Bd d 4) : Ki z l yX2_raises cX2_raises 4 .boolean [.ref (ad 0 0), .ref (ad 4 c), .int d] H 6 0 0 (fun r H1 => r = bI (raB st c d) ∧ QM z F ad (raT st c d) H H1) := by
  refine en_Ki (own := RX2) (by decide) rfl (Nat.le_of_ble_eq_true rfl) ?_
  intro ag pp ev sS mM below meth cd ls Q C hS hl hR
  have hx := C.1.1
  have hb := C.1.2.1
  have hl : lv_has ls 4 [(0, .ref (ad 0 0)), (1, .ref (ad 4 c)), (2, .int d)] := hl
  have hbc := (hQ.inv.2.2.1 c hc).1
  have hcl := bes_cl hbc hd
  refine lv_aload_n hx hb dX2_raises_0 rfl (lv_at hl 1 rfl) ?_
  refine gf_X2_63 C (hQ.c hc) rfl dX2_raises_1 ?_
  refine lv_iload_n hx hb dX2_raises_4 rfl (lv_at hl 2 rfl) ?_
  refine cv_X2_67 C hS (m_X1_beside z l) (Nat.le_of_ble_eq_true rfl) hl.1 (Nat.le_of_ble_eq_true rfl) (by omega) (by omega) dX2_raises_5 (fun r_5 h_5 => ?_)
  subst h_5
  refine lv_istore_n (lv' := [(3, _), (0, _), (1, _), (2, _)]) hx hb dX2_raises_8 rfl hl (by decide) rfl (fun ls hl => ?_)
  refine lv_aload_n hx hb dX2_raises_9 rfl (lv_at hl 2 rfl) ?_
  refine gf_X2_79 C (hQ.c hc) rfl dX2_raises_10 ?_
  refine lv_iconst (v := 3) hx hb dX2_raises_13 (by decide) ?_
  refine lv_icmp_lt (tgt := 43) hx hb dX2_raises_14 (by decide) (fun c_14 => ?_) (fun c_14 => ?_)
  · skip
    have hrb : raB st c d = false := by simp [raB, c_14]
    refine lv_iconst (v := 0) hx hb dX2_raises_43 (by decide) ?_
    exact hR _ _ _ _ _ _ _ dX2_raises_44 rfl hS (by omega) (by omega) (⟨by rw [hrb]; rfl, by unfold raT; rw [hrb]; exact QM.rf hQ⟩)
  · skip
    refine lv_aload_n hx hb dX2_raises_17 rfl (lv_at hl 1 rfl) ?_
    refine lv_iload_n hx hb dX2_raises_18 rfl (lv_at hl 0 rfl) ?_
    refine cv_X2_71 C hQ.q hS (m_X2_isLane z l hQ hcl) (Nat.le_of_ble_eq_true rfl) hl.1 (Nat.le_of_ble_eq_true rfl) (by omega) (by omega) dX2_raises_19 (fun r_19 h_19 => ?_)
    subst h_19
    refine lv_if_eq (tgt := 43) hx hb dX2_raises_22 (by decide) (fun c_22 => ?_) (fun c_22 => ?_)
    · skip
      have hla := bI_f c_22
      have hrb : raB st c d = false := by simp [raB, hla]
      refine lv_iconst (v := 0) hx hb dX2_raises_43 (by decide) ?_
      exact hR _ _ _ _ _ _ _ dX2_raises_44 rfl hS (by omega) (by omega) (⟨by rw [hrb]; rfl, by unfold raT; rw [hrb]; exact QM.rf hQ⟩)
    · skip
      have hla := bI_t c_22
      have htb := laB_bd hla hcl
      refine lv_aload_n hx hb dX2_raises_25 rfl (lv_at hl 1 rfl) ?_
      refine gf_X2_9 C hQ.q rfl dX2_raises_26 ?_
      refine lv_iload_n hx hb dX2_raises_29 rfl (lv_at hl 0 rfl) ?_
      refine g_iald C hQ.cs (htb.1.in (by omega) (by omega)) dX2_raises_30 ?_
      refine lv_seti (y := st 0 (cN (bes (st 1 c) d))) rfl ?_
      refine lv_iconst (v := 3) hx hb dX2_raises_31 (by decide) ?_
      refine lv_icmp_eq (tgt := 43) hx hb dX2_raises_32 (by decide) (fun c_32 => ?_) (fun c_32 => ?_)
      · skip
        have hrb : raB st c d = false := by simp [raB, c_32]
        refine lv_iconst (v := 0) hx hb dX2_raises_43 (by decide) ?_
        exact hR _ _ _ _ _ _ _ dX2_raises_44 rfl hS (by omega) (by omega) (⟨by rw [hrb]; rfl, by unfold raT; rw [hrb]; exact QM.rf hQ⟩)
      · skip
        refine lv_aload_n hx hb dX2_raises_35 rfl (lv_at hl 1 rfl) ?_
        refine lv_iload_n hx hb dX2_raises_36 rfl (lv_at hl 0 rfl) ?_
        refine cv_X2_82 C hQ.q hS (m_X2_isTaken z l hQ) (Nat.le_of_ble_eq_true rfl) hl.1 (Nat.le_of_ble_eq_true rfl) (by omega) (by omega) dX2_raises_37 (fun r_37 h_37 => ?_)
        subst h_37
        refine lv_if_eq (tgt := 45) hx hb dX2_raises_40 (by decide) (fun c_40 => ?_) (fun c_40 => ?_)
        · skip
          have hbz := bI_f c_40
          have hrb : raB st c d = true := by simp only [raB, hla, hbz, decide_eq_false c_14, beq_eq_false_iff_ne.mpr c_32]; rfl
          refine lv_aload_n hx hb dX2_raises_45 rfl (lv_at hl 1 rfl) ?_
          refine gf_X2_9 C hQ.q rfl dX2_raises_46 ?_
          refine lv_iload_n hx hb dX2_raises_49 rfl (lv_at hl 0 rfl) ?_
          refine lv_dup2_11 hx hb dX2_raises_50 rfl rfl ?_
          refine g_iald C hQ.cs (htb.1.in (by omega) (by omega)) dX2_raises_51 ?_
          refine lv_iconst (v := 1) hx hb dX2_raises_52 (by decide) ?_
          refine lv_iadd hx hb dX2_raises_53 ?_
          refine g_iast C hQ.cs (htb.1.in (by omega) (by omega)) hS (hQ.aa (k := 1) (i := 0) rfl) dX2_raises_54 (fun H1 locs hu hS => ?_)
          have hM1 := hQ.set0 (cv_up (hQ.inv.cv htb.1) htb.2 c_32) hu
          refine lv_iconst (v := 1) hx hb dX2_raises_55 (by decide) ?_
          exact hR _ _ _ _ _ _ _ dX2_raises_56 rfl hS (by omega) (by omega) (⟨by rw [hrb]; rfl, by unfold raT; rw [hrb]; exact hM1⟩)
        · skip
          have hbz := bI_t c_40
          have hrb : raB st c d = false := by simp [raB, hbz]
          refine lv_iconst (v := 0) hx hb dX2_raises_43 (by decide) ?_
          exact hR _ _ _ _ _ _ _ dX2_raises_44 rfl hS (by omega) (by omega) (⟨by rw [hrb]; rfl, by unfold raT; rw [hrb]; exact QM.rf hQ⟩)

set_option maxHeartbeats 4000000 in
theorem m_X2_pullsDown (z : Zt) (l : Launch) {H : Heap} {F : Nat → Prop} {ad : Nat → Nat → Nat} {st : St} {gh : Gh} (hQ : QW z F ad st gh H) {c : Nat} (hc : c < nC st) {d : Int32} (hd : Bd d 4) : Ki z l yX2_pullsDown cX2_pullsDown 4 .boolean [.ref (ad 0 0), .ref (ad 4 c), .int d] H 6 0 0 (fun r H1 => r = bI (puB st c d) ∧ QM z F ad (puT st c d) H H1) := by
  refine en_Ki (own := RX2) (by decide) rfl (Nat.le_of_ble_eq_true rfl) ?_
  intro ag pp ev sS mM below meth cd ls Q C hS hl hR
  have hx := C.1.1
  have hb := C.1.2.1
  have hl : lv_has ls 4 [(0, .ref (ad 0 0)), (1, .ref (ad 4 c)), (2, .int d)] := hl
  have hbc := (hQ.inv.2.2.1 c hc).1
  have hcl := bes_cl hbc hd
  refine lv_aload_n hx hb dX2_pullsDown_0 rfl (lv_at hl 1 rfl) ?_
  refine gf_X2_63 C (hQ.c hc) rfl dX2_pullsDown_1 ?_
  refine lv_iload_n hx hb dX2_pullsDown_4 rfl (lv_at hl 2 rfl) ?_
  refine cv_X2_67 C hS (m_X1_beside z l) (Nat.le_of_ble_eq_true rfl) hl.1 (Nat.le_of_ble_eq_true rfl) (by omega) (by omega) dX2_pullsDown_5 (fun r_5 h_5 => ?_)
  subst h_5
  refine lv_istore_n (lv' := [(3, _), (0, _), (1, _), (2, _)]) hx hb dX2_pullsDown_8 rfl hl (by decide) rfl (fun ls hl => ?_)
  refine lv_aload_n hx hb dX2_pullsDown_9 rfl (lv_at hl 1 rfl) ?_
  refine lv_iload_n hx hb dX2_pullsDown_10 rfl (lv_at hl 0 rfl) ?_
  refine cv_X2_71 C hQ.q hS (m_X2_isLane z l hQ hcl) (Nat.le_of_ble_eq_true rfl) hl.1 (Nat.le_of_ble_eq_true rfl) (by omega) (by omega) dX2_pullsDown_11 (fun r_11 h_11 => ?_)
  subst h_11
  refine lv_if_eq (tgt := 26) hx hb dX2_pullsDown_14 (by decide) (fun c_14 => ?_) (fun c_14 => ?_)
  · skip
    have hla := bI_f c_14
    have hrb : puB st c d = false := by simp [puB, hla]
    refine lv_iconst (v := 0) hx hb dX2_pullsDown_26 (by decide) ?_
    exact hR _ _ _ _ _ _ _ dX2_pullsDown_27 rfl hS (by omega) (by omega) (⟨by rw [hrb]; rfl, by unfold puT; rw [hrb]; exact QM.rf hQ⟩)
  · skip
    have hla := bI_t c_14
    have htb := laB_bd hla hcl
    refine lv_aload_n hx hb dX2_pullsDown_17 rfl (lv_at hl 1 rfl) ?_
    refine gf_X2_9 C hQ.q rfl dX2_pullsDown_18 ?_
    refine lv_iload_n hx hb dX2_pullsDown_21 rfl (lv_at hl 0 rfl) ?_
    refine g_iald C hQ.cs (htb.1.in (by omega) (by omega)) dX2_pullsDown_22 ?_
    refine lv_seti (y := st 0 (cN (bes (st 1 c) d))) rfl ?_
    refine lv_if_ne (tgt := 28) hx hb dX2_pullsDown_23 (by decide) (fun c_23 => ?_) (fun c_23 => ?_)
    · skip
      have hrb : puB st c d = true := by simp only [puB, hla, beq_eq_false_iff_ne.mpr c_23]; rfl
      refine lv_aload_n hx hb dX2_pullsDown_28 rfl (lv_at hl 1 rfl) ?_
      refine gf_X2_9 C hQ.q rfl dX2_pullsDown_29 ?_
      refine lv_iload_n hx hb dX2_pullsDown_32 rfl (lv_at hl 0 rfl) ?_
      refine lv_dup2_11 hx hb dX2_pullsDown_33 rfl rfl ?_
      refine g_iald C hQ.cs (htb.1.in (by omega) (by omega)) dX2_pullsDown_34 ?_
      refine lv_iconst (v := 1) hx hb dX2_pullsDown_35 (by decide) ?_
      refine lv_isub hx hb dX2_pullsDown_36 ?_
      refine g_iast C hQ.cs (htb.1.in (by omega) (by omega)) hS (hQ.aa (k := 1) (i := 0) rfl) dX2_pullsDown_37 (fun H1 locs hu hS => ?_)
      have hM1 := hQ.set0 (cv_dn (hQ.inv.cv htb.1) htb.2 c_23) hu
      refine lv_iconst (v := 1) hx hb dX2_pullsDown_38 (by decide) ?_
      exact hR _ _ _ _ _ _ _ dX2_pullsDown_39 rfl hS (by omega) (by omega) (⟨by rw [hrb]; rfl, by unfold puT; rw [hrb]; exact hM1⟩)
    · skip
      have hrb : puB st c d = false := by simp [puB, c_23]
      refine lv_iconst (v := 0) hx hb dX2_pullsDown_26 (by decide) ?_
      exact hR _ _ _ _ _ _ _ dX2_pullsDown_27 rfl hS (by omega) (by omega) (⟨by rw [hrb]; rfl, by unfold puT; rw [hrb]; exact QM.rf hQ⟩)

