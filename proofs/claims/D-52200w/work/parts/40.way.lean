set_option maxRecDepth 100000
/-! ways: breadth first -/
abbrev BF : Type := (Nat → Option Nat) × (Nat → Nat) × Nat
def bfC (x : BF) (k d : Nat) : Int32 := bes (nI (x.2.1 k)) (nI d)
def bfB (st : St) (x : BF) (k d : Nat) : Bool := frB st (bfC x k d) && (x.1 (cN (bfC x k d))).isNone
def upO (V : Nat → Option Nat) (k v : Nat) : Nat → Option Nat := fun n => if n = k then some v else V n
def bfS (x : BF) (k d : Nat) : BF := (upO x.1 (cN (bfC x k d)) ((x.1 (x.2.1 k)).getD 0 + 1), upN x.2.1 x.2.2 (cN (bfC x k d)), x.2.2 + 1)
def bfStep (st : St) (k d : Nat) (x : BF) : BF := cond (bfB st x k d) (bfS x k d) x
def bfR (st : St) : Nat → Nat → BF → BF
  | 0, _, x => x
  | n + 1, t, x => if t < 4 * x.2.2 then bfR st n (t + 1) (bfStep st (t / 4) (t % 4) x) else x
def bf0 (st : St) (a : Nat) : BF := cond (frB st (nI a)) (upO (fun _ => none) a 0, fun _ => a, 1) (fun _ => none, fun _ => a, 0)
def bfT (st : St) (a : Nat) : BF := bfR st 1000 0 (bf0 st a)
def wayF (st : St) (a b : Nat) : Int32 := match (bfT st a).1 b with
  | none => -1
  | some d => nI d
def cntO (V : Nat → Option Nat) : Nat → Nat
  | 0 => 0
  | n + 1 => cntO V n + (if (V n).isSome then 1 else 0)
theorem cntO_le (V : Nat → Option Nat) (n : Nat) : cntO V n ≤ n := by
  induction n with
  | zero => exact Nat.le_refl _
  | succ n ih =>
    show cntO V n + _ ≤ _
    split <;> omega
theorem cntO_lt {V : Nat → Option Nat} {k n : Nat} (h : V k = none) (hk : k < n) : cntO V n < n := by
  induction n with
  | zero => omega
  | succ n ih =>
    show cntO V n + _ < _
    by_cases e : k = n
    · subst e
      rw [h]
      have := cntO_le V k
      simp
      omega
    · have := ih (by omega)
      split <;> omega
theorem cntO_up {V : Nat → Option Nat} {k v n : Nat} (h : V k = none) : cntO (upO V k v) n = cntO V n + (if k < n then 1 else 0) := by
  induction n with
  | zero => rfl
  | succ n ih =>
    show cntO (upO V k v) n + (if (upO V k v n).isSome then 1 else 0) = cntO V n + (if (V n).isSome then 1 else 0) + _
    rw [ih]
    unfold upO
    by_cases e : n = k
    · subst e
      simp [h]
    · simp only [if_neg e]
      by_cases g : k < n
      · simp only [g, if_true, Nat.lt_succ_of_lt g]
        omega
      · have g2 : ¬ k < n + 1 := by omega
        simp only [g, g2, if_false]
        omega
def BI (st : St) (x : BF) : Prop := cntO x.1 108 = x.2.2 ∧ (∀ i, i < x.2.2 → x.2.1 i < 108 ∧ ∃ d, x.1 (x.2.1 i) = some d) ∧ ∀ n d, x.1 n = some d → d ≤ 108 ∧ d < x.2.2 ∧ n < 108 ∧ st 0 n = 0
theorem BI.m {st : St} {x : BF} (h : BI st x) : x.2.2 ≤ 108 := by rw [← h.1]; exact cntO_le _ _
theorem bfB_spec {st : St} {x : BF} {k d : Nat} (hx : BI st x) (hk : k < x.2.2) (hd : d < 4) (h : bfB st x k d = true) : Bd (bfC x k d) 108 ∧ st 0 (cN (bfC x k d)) = 0 ∧ x.1 (cN (bfC x k d)) = none := by
  unfold bfB at h
  rw [Bool.and_eq_true] at h
  have hcl : Cl (bfC x k d) := bes_cl ⟨_, (hx.2.1 k hk).1, rfl⟩ ⟨d, hd, rfl⟩
  have hb := frB_b h.1 hcl
  rw [frB_bd hb] at h
  exact ⟨hb, by simpa using h.1, by simpa using h.2⟩
theorem BI.S {st : St} {x : BF} (hx : BI st x) {k d : Nat} (hk : k < x.2.2) (hd : d < 4) (h : bfB st x k d = true) : BI st (bfS x k d) ∧ x.2.2 < 108 := by
  obtain ⟨h1, h2, h3⟩ := bfB_spec hx hk hd h
  have hc := (h1.cl (by omega)).2
  have hlt : x.2.2 < 108 := by rw [← hx.1]; exact cntO_lt h3 hc
  obtain ⟨d0, hd0⟩ := (hx.2.1 k hk).2
  have hd1 := hx.2.2 _ _ hd0
  refine ⟨⟨?_, fun i hi => ?_, fun n e hn => ?_⟩, hlt⟩
  · show cntO (upO x.1 _ _) 108 = x.2.2 + 1
    rw [cntO_up h3, hx.1, if_pos hc]
  · have hi' : i < x.2.2 + 1 := hi
    show upN x.2.1 x.2.2 _ i < 108 ∧ ∃ e, upO x.1 _ _ (upN x.2.1 x.2.2 _ i) = some e
    unfold upN
    by_cases e : i = x.2.2
    · rw [if_pos e]
      exact ⟨hc, _, if_pos rfl⟩
    · rw [if_neg e]
      have h5 := hx.2.1 i (by omega)
      obtain ⟨e5, h6⟩ := h5.2
      refine ⟨h5.1, ?_⟩
      unfold upO
      split
      · exact ⟨_, rfl⟩
      · exact ⟨e5, h6⟩
  · have hn' : upO x.1 (cN (bfC x k d)) ((x.1 (x.2.1 k)).getD 0 + 1) n = some e := hn
    show e ≤ 108 ∧ e < x.2.2 + 1 ∧ n < 108 ∧ st 0 n = 0
    unfold upO at hn'
    split at hn'
    · rename_i g
      rw [hd0] at hn'
      have hn9 : d0 + 1 = e := Option.some.inj hn'
      subst g
      exact ⟨by omega, by omega, hc, h2⟩
    · have := hx.2.2 n e hn'
      exact ⟨this.1, by omega, this.2.2⟩
theorem BI.step {st : St} {x : BF} (hx : BI st x) {k d : Nat} (hk : k < x.2.2) (hd : d < 4) : BI st (bfStep st k d x) := by
  unfold bfStep
  cases h : bfB st x k d with
  | false => exact hx
  | true => exact (hx.S hk hd h).1
theorem BI.z {st : St} (a : Nat) : BI st (fun _ => none, fun _ => a, 0) := ⟨by
  show cntO (fun _ => none) 108 = 0
  have : ∀ n, cntO (fun _ => none) n = 0 := fun n => by
    induction n with
    | zero => rfl
    | succ n ih => show cntO _ n + 0 = 0; rw [ih]
  exact this 108, fun i hi => (by cases hi), fun n d h => (by cases h)⟩
theorem BI.one {st : St} {a : Nat} (ha : a < 108) : BI st (bf0 st a) := by
  unfold bf0
  cases h : frB st (nI a) with
  | false => exact BI.z a
  | true =>
    rw [frB_bd ⟨a, ha, rfl⟩] at h
    have h0 : st 0 a = 0 := by
      unfold cN at h
      rw [nI_clamp (by omega)] at h
      simpa using h
    refine ⟨?_, fun i hi => ?_, fun n d hn => ?_⟩
    · show cntO (upO (fun _ => none) a 0) 108 = 1
      rw [cntO_up rfl, if_pos ha, (BI.z (st := st) a).1]
    · exact ⟨ha, 0, if_pos rfl⟩
    · have hn' : upO (fun _ => none) a 0 n = some d := hn
      unfold upO at hn'
      split at hn'
      · rename_i g
        cases hn'
        exact ⟨by omega, (by omega : 0 < 1), by omega, by rw [g]; exact h0⟩
      · cases hn'
/-- the steps' array of the component: -1 where none -/
def sV (o : Option Nat) : Int32 := match o with
  | none => -1
  | some d => nI d
def Sf (f : Nat → Int32) (V : Nat → Option Nat) : Prop := ∀ n, n < 108 → f n = sV (V n)
def Rf (f : Nat → Int32) (R : Nat → Nat) (m : Nat) : Prop := ∀ i, i < m → f i = nI (R i)
theorem Sf.up {f : Nat → Int32} {V : Nat → Option Nat} (h : Sf f V) (k v : Nat) : Sf (upd f k (nI v)) (upO V k v) := by
  intro n hn
  unfold upd upO
  split
  · rfl
  · exact h n hn
theorem Rf.up {f : Nat → Int32} {R : Nat → Nat} {m : Nat} (h : Rf f R m) (c : Nat) : Rf (upd f m (nI c)) (upN R m c) (m + 1) := by
  intro i hi
  unfold upd upN
  split
  · rfl
  · exact h i (by omega)
theorem bfR_end {st : St} {n t : Nat} {x : BF} (h : 4 * x.2.2 ≤ t) : bfR st n t x = x := by
  cases n with
  | zero => rfl
  | succ n => exact if_neg (by omega)
theorem bfR_go {st : St} {n k d : Nat} {x : BF} (hk : k < x.2.2) (hd : d < 4) : bfR st (n + 1) (4 * k + d) x = bfR st n (4 * k + (d + 1)) (bfStep st k d x) := by
  have h : bfR st (n + 1) (4 * k + d) x = bfR st n (4 * k + d + 1) (bfStep st ((4 * k + d) / 4) ((4 * k + d) % 4) x) := if_pos (by omega)
  rw [h, show (4 * k + d) / 4 = k by omega, show (4 * k + d) % 4 = d by omega]
  rfl

set_option maxHeartbeats 4000000 in
theorem m_X2_way (z : Zt) (l : Launch) {H : Heap} {F : Nat → Prop} {ad : Nat → Nat → Nat} {st : St} {gh : Gh} (hQ : QW z F ad st gh H) {a b : Nat} (ha : a < 108) (hb9 : b < 108) : Ki z l yX2_way cX2_way 9 .int [.ref (ad 0 0), .int (nI a), .int (nI b)] H 3 2 216 (fun r H1 => r = wayF st a b ∧ Ext H H1) := by
  refine en_Ki (own := RX2) (by decide) rfl (Nat.le_of_ble_eq_true rfl) ?_
  intro ag pp ev sS mM below meth cd ls Q C hS hl hR
  have hx := C.1.1
  have hb := C.1.2.1
  have hl : lv_has ls 9 [(0, .ref (ad 0 0)), (1, .int (nI a)), (2, .int (nI b))] := hl
  have hQ0 := hQ
  have hS0 := hS
  refine lv_bipush (v := 108) hx hb dX2_way_0 (by decide) ?_
  refine r_newi C (by decide) (N := 108) rfl (by omega) hS (by omega) (by omega) dX2_way_2 (fun H1 hn hS => ?_)
  have hn1 := hn
  have hsz1 := hn.2.1
  refine lv_astore_n (lv' := [(3, _), (0, _), (1, _), (2, _)]) hx hb dX2_way_4 rfl hl (by decide) rfl (fun ls hl => ?_)
  refine lv_bipush (v := 108) hx hb dX2_way_5 (by decide) ?_
  refine r_newi C (by decide) (N := 108) rfl (by omega) hS (by omega) (by omega) dX2_way_7 (fun H1 hn hS => ?_)
  have hsz2 := hn.2.1
  have hfa := hn1.1.ext hn.ext
  have hra := hn.1
  rw [hsz1] at hra ⊢
  have hE := hn1.ext.tr hn.ext
  have hA : AA z H.size := (C.2.2.1.S hS0).1
  have hA2 : AA z (H.size + 1) := Nat.le_succ_of_le hA
  have hQ1 := hQ.ext hE
  generalize H1 = H2 at hfa hra hE hQ1 hS ⊢
  refine lv_astore (lv' := [(4, _), (3, _), (0, _), (1, _), (2, _)]) hx hb dX2_way_9 hl (by decide) rfl (fun ls hl => ?_)
  refine lv_iconst (v := 0) hx hb dX2_way_11 (by decide) ?_
  refine lv_istore (lv' := [(5, _), (4, _), (3, _), (0, _), (1, _), (2, _)]) hx hb dX2_way_12 hl (by decide) rfl (fun ls hl => ?_)
  have L14 : ∀ (k9 : Nat) (k : Nat) (H3 : Heap) (locs : List Loc) (f : Nat → Int32) (g : Nat → Int32) (ls : Array Slot), k ≤ 108 → 109 ≤ k + k9 → (∀ n, n < k → f n = -1) → c1 z H.size (aI z 108 f) H3 → c1 z (H.size + 1) (aI z 108 g) H3 → Ext H H3 → va_S (AA z) sS.heap H3 locs → lv_has ls 9 [(5, .int (nI k)), (4, .ref (H.size + 1)), (3, .ref H.size), (0, .ref (ad 0 0)), (1, .int (nI a)), (2, .int (nI b))] → W pp l ev (RL 3 2 216) sS mM ag below meth cd H3 locs (0 + 1 + 1) (0 + 108 + 108) Q (F0 mM 14 ls []) := by
    intro k9
    induction k9 with
    | zero =>
      intro k H3 locs f g ls hk0 hk1 hf hfa hra hE hS hl
      omega
    | succ k9 ih =>
      intro k H3 locs f g ls hk0 hk1 hf hfa hra hE hS hl
      refine lv_iload hx hb dX2_way_14 (lv_at hl 0 rfl) ?_
      refine lv_bipush (v := 108) hx hb dX2_way_16 (by decide) ?_
      refine lv_icmp_ge (tgt := 32) hx hb dX2_way_18 (by decide) (fun c_18 => ?_) (fun c_18 => ?_)
      · skip
        have hke : k = 108 := lp_end hk0 c_18 (by omega)
        have hQ := hQ0.ext hE
        refine lv_iconst (v := 0) hx hb dX2_way_32 (by decide) ?_
        refine lv_istore (lv' := [(5, _), (4, _), (3, _), (0, _), (1, _), (2, _)]) hx hb dX2_way_33 hl (by decide) rfl (fun ls hl => ?_)
        refine lv_aload_n hx hb dX2_way_35 rfl (lv_at hl 3 rfl) ?_
        refine lv_iload_n hx hb dX2_way_36 rfl (lv_at hl 4 rfl) ?_
        refine cv_X2_121 C hQ.q hS (m_X2_isFree z l hQ (Or.inr ⟨a, ha, rfl⟩)) (Nat.le_of_ble_eq_true rfl) hl.1 (Nat.le_of_ble_eq_true rfl) (by omega) (by omega) dX2_way_37 (fun r_37 h_37 => ?_)
        subst h_37
        refine lv_if_eq (tgt := 55) hx hb dX2_way_40 (by decide) (fun c_40 => ?_) (fun c_40 => ?_)
        · skip
          obtain ⟨x9, ex9⟩ : ∃ x, x = bf0 st a := ⟨_, rfl⟩
          have hI9 : BI st x9 := by rw [ex9]; exact BI.one ha
          have hT9 : bfR st 1000 0 x9 = bfT st a := by rw [ex9]; rfl
          have hfr := bI_f c_40
          have hx0 : x9 = (fun _ => none, fun _ => a, 0) := by rw [ex9]; unfold bf0; rw [hfr]; rfl
          have hSf : Sf f x9.1 := by rw [hx0]; exact fun n hn => hf n (by omega)
          have hRf : Rf g x9.2.1 x9.2.2 := by rw [hx0]; exact fun i hi => by cases hi
          have hm9 : (0 : Int32) = nI x9.2.2 := by rw [hx0]; rfl
          rw [hm9] at hl
          have hfb := hfa
          have hrb := hra
          have hEb := hE
          generalize H3 = H4 at hfb hrb hEb hS ⊢
          refine lv_iconst (v := 0) hx hb dX2_way_55 (by decide) ?_
          refine lv_istore (lv' := [(6, _), (5, _), (4, _), (3, _), (0, _), (1, _), (2, _)]) hx hb dX2_way_56 hl (by decide) rfl (fun ls hl => ?_)
          have L58 : ∀ (k9 : Nat) (k : Nat) (x : BF) (n9 : Nat) (H3 : Heap) (locs : List Loc) (f : Nat → Int32) (g : Nat → Int32) (ls : Array Slot), k ≤ 108 → 109 ≤ k + k9 → BI st x → 500 ≤ n9 + 4 * k → bfR st n9 (4 * k) x = bfT st a → Sf f x.1 → Rf g x.2.1 x.2.2 → c1 z H.size (aI z 108 f) H3 → c1 z (H.size + 1) (aI z 108 g) H3 → Ext H H3 → va_S (AA z) sS.heap H3 locs → lv_has ls 9 [(6, .int (nI k)), (5, .int (nI x.2.2)), (4, .ref (H.size + 1)), (3, .ref H.size), (0, .ref (ad 0 0)), (1, .int (nI a)), (2, .int (nI b))] → W pp l ev (RL 3 2 216) sS mM ag below meth cd H3 locs (0 + 1 + 1) (0 + 108 + 108) Q (F0 mM 58 ls []) := by
            intro k9
            induction k9 with
            | zero =>
              intro k x n9 H3 locs f g ls hk0 hk1 hI hn9 hT hSf hRf hfa hra hE hS hl
              omega
            | succ k9 ih =>
              intro k x n9 H3 locs f g ls hk0 hk1 hI hn9 hT hSf hRf hfa hra hE hS hl
              have ihO := ih
              refine lv_iload hx hb dX2_way_58 (lv_at hl 0 rfl) ?_
              refine lv_iload hx hb dX2_way_60 (lv_at hl 1 rfl) ?_
              refine lv_icmp_ge (tgt := 141) hx hb dX2_way_62 (by decide) (fun c_62 => ?_) (fun c_62 => ?_)
              · skip
                have hkm : x.2.2 ≤ k := Nat.not_lt.mp (fun h => absurd c_62 (nI_ge h (by have := hI.m; omega)))
                have hx9 : x = bfT st a := by rw [← hT]; exact (bfR_end (by omega)).symm
                refine lv_aload_n hx hb dX2_way_141 rfl (lv_at hl 3 rfl) ?_
                refine lv_iload_n hx hb dX2_way_142 rfl (lv_at hl 6 rfl) ?_
                refine g_iald C hfa (vp_in_nI hb9 (by omega)) dX2_way_143 ?_
                refine lv_seti (y := wayF st a b) (by rw [nI_clamp (by omega), hSf b hb9, hx9]; rfl) ?_
                exact hR _ _ _ _ _ _ _ dX2_way_144 rfl hS (by omega) (by omega) (⟨rfl, hE⟩)
              · skip
                have hk : k < x.2.2 := Nat.not_le.mp (fun h => c_62 (nI_le h (by omega)))
                refine lv_iconst (v := 0) hx hb dX2_way_65 (by decide) ?_
                refine lv_istore (lv' := [(7, _), (6, _), (5, _), (4, _), (3, _), (0, _), (1, _), (2, _)]) hx hb dX2_way_66 hl (by decide) rfl (fun ls hl => ?_)
                have L68 : ∀ (k9 : Nat) (d : Nat) (x : BF) (n9 : Nat) (H3 : Heap) (locs : List Loc) (f : Nat → Int32) (g : Nat → Int32) (ls : Array Slot), d ≤ 4 → 5 ≤ d + k9 → k < x.2.2 → BI st x → 500 ≤ n9 + (4 * k + d) → bfR st n9 (4 * k + d) x = bfT st a → Sf f x.1 → Rf g x.2.1 x.2.2 → c1 z H.size (aI z 108 f) H3 → c1 z (H.size + 1) (aI z 108 g) H3 → Ext H H3 → va_S (AA z) sS.heap H3 locs → lv_has ls 9 [(7, .int (nI d)), (6, .int (nI k)), (5, .int (nI x.2.2)), (4, .ref (H.size + 1)), (3, .ref H.size), (0, .ref (ad 0 0)), (1, .int (nI a)), (2, .int (nI b))] → W pp l ev (RL 3 2 216) sS mM ag below meth cd H3 locs (0 + 1 + 1) (0 + 108 + 108) Q (F0 mM 68 ls []) := by
                  intro k9
                  induction k9 with
                  | zero =>
                    intro d x n9 H3 locs f g ls hd0 hd1 hkx hI hn9 hT hSf hRf hfa hra hE hS hl
                    omega
                  | succ k9 ih =>
                    intro d x n9 H3 locs f g ls hd0 hd1 hkx hI hn9 hT hSf hRf hfa hra hE hS hl
                    refine lv_iload hx hb dX2_way_68 (lv_at hl 0 rfl) ?_
                    refine lv_iconst (v := 4) hx hb dX2_way_70 (by decide) ?_
                    refine lv_icmp_ge (tgt := 135) hx hb dX2_way_71 (by decide) (fun c_71 => ?_) (fun c_71 => ?_)
                    · skip
                      have hd4 : d = 4 := lp_end (n := 4) hd0 c_71 (by omega)
                      refine lv_iinc (lv' := [(6, _), (7, _), (5, _), (4, _), (3, _), (0, _), (1, _), (2, _)]) hx hb dX2_way_135 hl (k := 1) rfl (v := nI (k + 1)) (nI_1 k) (by decide) rfl (fun ls hl => ?_)
                      refine lv_goto (tgt := 58) hx hb dX2_way_138 (by decide) ?_
                      exact ihO (k + 1) x n9 _ _ _ _ _ (by have := hI.m; omega) (by omega) hI (by omega) (by rw [show 4 * (k + 1) = 4 * k + d by omega]; exact hT) hSf hRf hfa hra hE hS (lv_sub hl [0, 2, 3, 4, 5, 6, 7] rfl)
                    · skip
                      have hd : d < 4 := lp_in (n := 4) hd0 c_71 (by omega)
                      have hQ := hQ0.ext hE
                      have hm := hI.m
                      have hRk := hI.2.1 k hkx
                      obtain ⟨d1, hd1⟩ := hRk.2
                      obtain ⟨n8, en8⟩ : ∃ n, n9 = n + 1 := ⟨n9 - 1, by omega⟩
                      have hT5 : bfR st n8 (4 * k + (d + 1)) (bfStep st k d x) = bfT st a := by rw [← hT, en8, bfR_go hkx hd]
                      have hn5 : 500 ≤ n8 + (4 * k + (d + 1)) := by omega
                      have hI5 := hI.step hkx hd
                      have hcl : Cl (bfC x k d) := bes_cl ⟨_, hRk.1, rfl⟩ ⟨d, hd, rfl⟩
                      refine lv_aload hx hb dX2_way_74 (lv_at hl 3 rfl) ?_
                      refine lv_iload hx hb dX2_way_76 (lv_at hl 1 rfl) ?_
                      refine g_iald C hra (vp_in_nI (by omega) (by omega)) dX2_way_78 ?_
                      refine lv_seti (y := nI (x.2.1 k)) (by rw [nI_clamp (by omega)]; exact hRf k hkx) ?_
                      refine lv_iload hx hb dX2_way_79 (lv_at hl 0 rfl) ?_
                      refine cv_X2_67 C hS (m_X1_beside z l) (Nat.le_of_ble_eq_true rfl) hl.1 (Nat.le_of_ble_eq_true rfl) (by omega) (by omega) dX2_way_81 (fun r_81 h_81 => ?_)
                      subst h_81
                      refine lv_seti (y := bfC x k d) rfl ?_
                      refine lv_istore (lv' := [(8, _), (7, _), (6, _), (5, _), (4, _), (3, _), (0, _), (1, _), (2, _)]) hx hb dX2_way_84 hl (by decide) rfl (fun ls hl => ?_)
                      refine lv_aload_n hx hb dX2_way_86 rfl (lv_at hl 6 rfl) ?_
                      refine lv_iload hx hb dX2_way_87 (lv_at hl 0 rfl) ?_
                      refine cv_X2_121 C hQ.q hS (m_X2_isFree z l hQ hcl) (Nat.le_of_ble_eq_true rfl) hl.1 (Nat.le_of_ble_eq_true rfl) (by omega) (by omega) dX2_way_89 (fun r_89 h_89 => ?_)
                      subst h_89
                      refine lv_if_eq (tgt := 129) hx hb dX2_way_92 (by decide) (fun c_92 => ?_) (fun c_92 => ?_)
                      · skip
                        have hfr := bI_f c_92
                        have hbb : bfB st x k d = false := by unfold bfB; rw [hfr]; rfl
                        have hsp : bfStep st k d x = x := by unfold bfStep; rw [hbb]; rfl
                        have hkx5 : k < (bfStep st k d x).2.2 := by rw [hsp]; exact hkx
                        have hSf5 : Sf f (bfStep st k d x).1 := by rw [hsp]; exact hSf
                        have hRf5 : Rf g (bfStep st k d x).2.1 (bfStep st k d x).2.2 := by rw [hsp]; exact hRf
                        have hm5 : nI (bfStep st k d x).2.2 = nI x.2.2 := by rw [hsp]
                        refine lv_iinc (lv' := [(7, _), (8, _), (6, _), (5, _), (4, _), (3, _), (0, _), (1, _), (2, _)]) hx hb dX2_way_129 hl (k := 1) rfl (v := nI (d + 1)) (nI_1 d) (by decide) rfl (fun ls hl => ?_)
                        refine lv_goto (tgt := 68) hx hb dX2_way_132 (by decide) ?_
                        exact ih (d + 1) _ _ _ _ _ _ _ (by omega) (by omega) hkx5 hI5 hn5 hT5 hSf5 hRf5 hfa hra hE hS (by rw [hm5]; first | exact lv_sub hl [0, 2, 3, 4, 5, 6, 7, 8] rfl | exact lv_sub hl [0, 3, 1, 4, 5, 6, 7, 8] rfl)
                      · skip
                        have hfr := bI_t c_92
                        have hcb := frB_b hfr hcl
                        have hcc := hcb.cl (by omega)
                        refine lv_aload_n hx hb dX2_way_95 rfl (lv_at hl 5 rfl) ?_
                        refine lv_iload hx hb dX2_way_96 (lv_at hl 0 rfl) ?_
                        refine g_iald C hfa (hcb.in (by omega) (by omega)) dX2_way_98 ?_
                        refine lv_seti (y := sV (x.1 (cN (bfC x k d)))) (hSf _ hcc.2) ?_
                        refine lv_iconst (v := (-1)) hx hb dX2_way_99 (by decide) ?_
                        refine lv_icmp_eq (tgt := 106) hx hb dX2_way_100 (by decide) (fun c_100 => ?_) (fun c_100 => ?_)
                        · skip
                          have hno : x.1 (cN (bfC x k d)) = none := by
                            cases hh : x.1 (cN (bfC x k d)) with
                            | none => rfl
                            | some e =>
                              rw [hh] at c_100
                              exact absurd c_100 ((show Bd (nI e) 200 from ⟨e, by have := (hI.2.2 _ _ hh).1; omega, rfl⟩).ne (by omega))
                          have hbb : bfB st x k d = true := by unfold bfB; rw [hfr, hno]; rfl
                          have hsp : bfStep st k d x = bfS x k d := by unfold bfStep; rw [hbb]; rfl
                          have hm8 := (hI.S hkx hd hbb).2
                          refine lv_aload_n hx hb dX2_way_106 rfl (lv_at hl 5 rfl) ?_
                          refine lv_iload hx hb dX2_way_107 (lv_at hl 0 rfl) ?_
                          refine lv_aload_n hx hb dX2_way_109 rfl (lv_at hl 5 rfl) ?_
                          refine lv_aload hx hb dX2_way_110 (lv_at hl 4 rfl) ?_
                          refine lv_iload hx hb dX2_way_112 (lv_at hl 2 rfl) ?_
                          refine g_iald C hra (vp_in_nI (by omega) (by omega)) dX2_way_114 ?_
                          refine lv_seti (y := nI (x.2.1 k)) (by rw [nI_clamp (by omega)]; exact hRf k hkx) ?_
                          refine g_iald C hfa (vp_in_nI hRk.1 (by omega)) dX2_way_115 ?_
                          refine lv_seti (y := nI d1) (by rw [nI_clamp (by omega), hSf _ hRk.1, hd1]; rfl) ?_
                          refine lv_iconst (v := 1) hx hb dX2_way_116 (by decide) ?_
                          refine lv_iadd hx hb dX2_way_117 ?_
                          rw [nI_1]
                          refine g_iast C hfa (hcb.in (by omega) (by omega)) hS hA dX2_way_118 (fun H1 locs hu hS => ?_)
                          have hu1 := hu
                          refine lv_aload hx hb dX2_way_119 (lv_at hl 4 rfl) ?_
                          refine lv_iload hx hb dX2_way_121 (lv_at hl 3 rfl) ?_
                          refine lv_iload hx hb dX2_way_123 (lv_at hl 0 rfl) ?_
                          refine lv_seti (y := nI (cN (bfC x k d))) hcc.1 ?_
                          refine g_iast C (hra.up hu1 (by omega)) (vp_in_nI hm8 (by omega)) hS hA2 dX2_way_125 (fun H1 locs hu hS => ?_)
                          rw [nI_clamp (by omega)] at hu
                          have hkx5 : k < (bfStep st k d x).2.2 := by rw [hsp]; exact Nat.lt_succ_of_lt hkx
                          have hSf5 : Sf (upd f (cN (bfC x k d)) (nI (d1 + 1))) (bfStep st k d x).1 := by
                            rw [hsp]
                            have := hSf.up (cN (bfC x k d)) ((x.1 (x.2.1 k)).getD 0 + 1)
                            rw [hd1] at this
                            show Sf _ (upO x.1 (cN (bfC x k d)) ((x.1 (x.2.1 k)).getD 0 + 1))
                            rw [hd1]
                            exact this
                          have hRf5 : Rf (upd g x.2.2 (nI (cN (bfC x k d)))) (bfStep st k d x).2.1 (bfStep st k d x).2.2 := by rw [hsp]; exact hRf.up _
                          have hm5 : nI (bfStep st k d x).2.2 = nI (x.2.2 + 1) := by rw [hsp]; rfl
                          have hfa := hu1.1.up hu (by omega)
                          have hra := hu.1
                          have hE : Ext H H1 := ⟨by rw [hu.2.1, hu1.2.1]; exact hE.1, fun q hq => by rw [hu.2.2 q (by omega), hu1.2.2 q (by omega), hE.2 q hq]⟩
                          refine lv_iinc (lv' := [(5, _), (8, _), (7, _), (6, _), (4, _), (3, _), (0, _), (1, _), (2, _)]) hx hb dX2_way_126 hl (k := 3) rfl (v := nI (x.2.2 + 1)) (nI_1 x.2.2) (by decide) rfl (fun ls hl => ?_)
                          refine lv_iinc (lv' := [(7, _), (5, _), (8, _), (6, _), (4, _), (3, _), (0, _), (1, _), (2, _)]) hx hb dX2_way_129 hl (k := 2) rfl (v := nI (d + 1)) (nI_1 d) (by decide) rfl (fun ls hl => ?_)
                          refine lv_goto (tgt := 68) hx hb dX2_way_132 (by decide) ?_
                          exact ih (d + 1) _ _ _ _ _ _ _ (by omega) (by omega) hkx5 hI5 hn5 hT5 hSf5 hRf5 hfa hra hE hS (by rw [hm5]; first | exact lv_sub hl [0, 2, 3, 4, 5, 6, 7, 8] rfl | exact lv_sub hl [0, 3, 1, 4, 5, 6, 7, 8] rfl)
                        · skip
                          have hbb : bfB st x k d = false := by
                            unfold bfB
                            cases hh : x.1 (cN (bfC x k d)) with
                            | none =>
                              rw [hh] at c_100
                              exact absurd rfl c_100
                            | some e => rw [hfr]; rfl
                          have hsp : bfStep st k d x = x := by unfold bfStep; rw [hbb]; rfl
                          have hkx5 : k < (bfStep st k d x).2.2 := by rw [hsp]; exact hkx
                          have hSf5 : Sf f (bfStep st k d x).1 := by rw [hsp]; exact hSf
                          have hRf5 : Rf g (bfStep st k d x).2.1 (bfStep st k d x).2.2 := by rw [hsp]; exact hRf
                          have hm5 : nI (bfStep st k d x).2.2 = nI x.2.2 := by rw [hsp]
                          refine lv_goto (tgt := 129) hx hb dX2_way_103 (by decide) ?_
                          refine lv_iinc (lv' := [(7, _), (8, _), (6, _), (5, _), (4, _), (3, _), (0, _), (1, _), (2, _)]) hx hb dX2_way_129 hl (k := 1) rfl (v := nI (d + 1)) (nI_1 d) (by decide) rfl (fun ls hl => ?_)
                          refine lv_goto (tgt := 68) hx hb dX2_way_132 (by decide) ?_
                          exact ih (d + 1) _ _ _ _ _ _ _ (by omega) (by omega) hkx5 hI5 hn5 hT5 hSf5 hRf5 hfa hra hE hS (by rw [hm5]; first | exact lv_sub hl [0, 2, 3, 4, 5, 6, 7, 8] rfl | exact lv_sub hl [0, 3, 1, 4, 5, 6, 7, 8] rfl)
                exact L68 5 0 x n9 _ _ _ _ _ (by omega) (by omega) hk hI (by omega) hT hSf hRf hfa hra hE hS (by rw [nI_0]; exact hl)
          exact L58 109 0 x9 1000 _ _ _ _ _ (by omega) (by omega) hI9 (by omega) hT9 hSf hRf hfb hrb hEb hS (by first | (rw [nI_0]; exact hl) | (rw [nI_0]; exact lv_sub hl [0, 1, 2, 3, 4, 5, 6] rfl))
        · skip
          have hfr := bI_t c_40
          refine lv_aload_n hx hb dX2_way_43 rfl (lv_at hl 2 rfl) ?_
          refine lv_iload_n hx hb dX2_way_44 rfl (lv_at hl 4 rfl) ?_
          refine lv_iconst (v := 0) hx hb dX2_way_45 (by decide) ?_
          refine g_iast C hfa (vp_in_nI ha (by omega)) hS hA dX2_way_46 (fun H1 locs hu hS => ?_)
          rw [nI_clamp (by omega)] at hu
          have hu1 := hu
          have hE4 : Ext H H1 := ⟨by rw [hu.2.1]; exact hE.1, fun q hq => by rw [hu.2.2 q (by omega), hE.2 q hq]⟩
          have hQ4 : QW z F ad st gh H1 := hQ0.ext hE4
          refine lv_aload hx hb dX2_way_47 (lv_at hl 1 rfl) ?_
          refine lv_iconst (v := 0) hx hb dX2_way_49 (by decide) ?_
          refine lv_iload_n hx hb dX2_way_50 rfl (lv_at hl 4 rfl) ?_
          refine g_iast C (hra.up hu1 (by omega)) (vp_in_nI (n := 0) (by omega) (by omega)) hS hA2 dX2_way_51 (fun H1 locs hu hS => ?_)
          rw [c0] at hu
          refine lv_iconst (v := 1) hx hb dX2_way_52 (by decide) ?_
          obtain ⟨x9, ex9⟩ : ∃ x, x = bf0 st a := ⟨_, rfl⟩
          have hI9 : BI st x9 := by rw [ex9]; exact BI.one ha
          have hT9 : bfR st 1000 0 x9 = bfT st a := by rw [ex9]; rfl
          have hx0 : x9 = (upO (fun _ => none) a 0, fun _ => a, 1) := by rw [ex9]; unfold bf0; rw [hfr]; rfl
          have hSf : Sf (upd f a 0) x9.1 := by rw [hx0]; exact Sf.up (fun n hn => hf n (by omega)) a 0
          have hRf : Rf (upd g 0 (nI a)) x9.2.1 x9.2.2 := by
            rw [hx0]
            intro i hi
            have hi : i < 1 := hi
            rw [show i = 0 by omega]
            exact pk_us
          have hm9 : (1 : Int32) = nI x9.2.2 := by rw [hx0]; rfl
          rw [hm9]
          have hfb := hu1.1.up hu (by omega)
          have hrb := hu.1
          have hEb : Ext H H1 := ⟨by rw [hu.2.1]; exact hE4.1, fun q hq => by rw [hu.2.2 q (by omega), hE4.2 q hq]⟩
          generalize H1 = H4 at hfb hrb hEb hS ⊢
          refine lv_istore (lv' := [(5, _), (4, _), (3, _), (0, _), (1, _), (2, _)]) hx hb dX2_way_53 hl (by decide) rfl (fun ls hl => ?_)
          refine lv_iconst (v := 0) hx hb dX2_way_55 (by decide) ?_
          refine lv_istore (lv' := [(6, _), (5, _), (4, _), (3, _), (0, _), (1, _), (2, _)]) hx hb dX2_way_56 hl (by decide) rfl (fun ls hl => ?_)
          have L58 : ∀ (k9 : Nat) (k : Nat) (x : BF) (n9 : Nat) (H3 : Heap) (locs : List Loc) (f : Nat → Int32) (g : Nat → Int32) (ls : Array Slot), k ≤ 108 → 109 ≤ k + k9 → BI st x → 500 ≤ n9 + 4 * k → bfR st n9 (4 * k) x = bfT st a → Sf f x.1 → Rf g x.2.1 x.2.2 → c1 z H.size (aI z 108 f) H3 → c1 z (H.size + 1) (aI z 108 g) H3 → Ext H H3 → va_S (AA z) sS.heap H3 locs → lv_has ls 9 [(6, .int (nI k)), (5, .int (nI x.2.2)), (4, .ref (H.size + 1)), (3, .ref H.size), (0, .ref (ad 0 0)), (1, .int (nI a)), (2, .int (nI b))] → W pp l ev (RL 3 2 216) sS mM ag below meth cd H3 locs (0 + 1 + 1) (0 + 108 + 108) Q (F0 mM 58 ls []) := by
            intro k9
            induction k9 with
            | zero =>
              intro k x n9 H3 locs f g ls hk0 hk1 hI hn9 hT hSf hRf hfa hra hE hS hl
              omega
            | succ k9 ih =>
              intro k x n9 H3 locs f g ls hk0 hk1 hI hn9 hT hSf hRf hfa hra hE hS hl
              have ihO := ih
              refine lv_iload hx hb dX2_way_58 (lv_at hl 0 rfl) ?_
              refine lv_iload hx hb dX2_way_60 (lv_at hl 1 rfl) ?_
              refine lv_icmp_ge (tgt := 141) hx hb dX2_way_62 (by decide) (fun c_62 => ?_) (fun c_62 => ?_)
              · skip
                have hkm : x.2.2 ≤ k := Nat.not_lt.mp (fun h => absurd c_62 (nI_ge h (by have := hI.m; omega)))
                have hx9 : x = bfT st a := by rw [← hT]; exact (bfR_end (by omega)).symm
                refine lv_aload_n hx hb dX2_way_141 rfl (lv_at hl 3 rfl) ?_
                refine lv_iload_n hx hb dX2_way_142 rfl (lv_at hl 6 rfl) ?_
                refine g_iald C hfa (vp_in_nI hb9 (by omega)) dX2_way_143 ?_
                refine lv_seti (y := wayF st a b) (by rw [nI_clamp (by omega), hSf b hb9, hx9]; rfl) ?_
                exact hR _ _ _ _ _ _ _ dX2_way_144 rfl hS (by omega) (by omega) (⟨rfl, hE⟩)
              · skip
                have hk : k < x.2.2 := Nat.not_le.mp (fun h => c_62 (nI_le h (by omega)))
                refine lv_iconst (v := 0) hx hb dX2_way_65 (by decide) ?_
                refine lv_istore (lv' := [(7, _), (6, _), (5, _), (4, _), (3, _), (0, _), (1, _), (2, _)]) hx hb dX2_way_66 hl (by decide) rfl (fun ls hl => ?_)
                have L68 : ∀ (k9 : Nat) (d : Nat) (x : BF) (n9 : Nat) (H3 : Heap) (locs : List Loc) (f : Nat → Int32) (g : Nat → Int32) (ls : Array Slot), d ≤ 4 → 5 ≤ d + k9 → k < x.2.2 → BI st x → 500 ≤ n9 + (4 * k + d) → bfR st n9 (4 * k + d) x = bfT st a → Sf f x.1 → Rf g x.2.1 x.2.2 → c1 z H.size (aI z 108 f) H3 → c1 z (H.size + 1) (aI z 108 g) H3 → Ext H H3 → va_S (AA z) sS.heap H3 locs → lv_has ls 9 [(7, .int (nI d)), (6, .int (nI k)), (5, .int (nI x.2.2)), (4, .ref (H.size + 1)), (3, .ref H.size), (0, .ref (ad 0 0)), (1, .int (nI a)), (2, .int (nI b))] → W pp l ev (RL 3 2 216) sS mM ag below meth cd H3 locs (0 + 1 + 1) (0 + 108 + 108) Q (F0 mM 68 ls []) := by
                  intro k9
                  induction k9 with
                  | zero =>
                    intro d x n9 H3 locs f g ls hd0 hd1 hkx hI hn9 hT hSf hRf hfa hra hE hS hl
                    omega
                  | succ k9 ih =>
                    intro d x n9 H3 locs f g ls hd0 hd1 hkx hI hn9 hT hSf hRf hfa hra hE hS hl
                    refine lv_iload hx hb dX2_way_68 (lv_at hl 0 rfl) ?_
                    refine lv_iconst (v := 4) hx hb dX2_way_70 (by decide) ?_
                    refine lv_icmp_ge (tgt := 135) hx hb dX2_way_71 (by decide) (fun c_71 => ?_) (fun c_71 => ?_)
                    · skip
                      have hd4 : d = 4 := lp_end (n := 4) hd0 c_71 (by omega)
                      refine lv_iinc (lv' := [(6, _), (7, _), (5, _), (4, _), (3, _), (0, _), (1, _), (2, _)]) hx hb dX2_way_135 hl (k := 1) rfl (v := nI (k + 1)) (nI_1 k) (by decide) rfl (fun ls hl => ?_)
                      refine lv_goto (tgt := 58) hx hb dX2_way_138 (by decide) ?_
                      exact ihO (k + 1) x n9 _ _ _ _ _ (by have := hI.m; omega) (by omega) hI (by omega) (by rw [show 4 * (k + 1) = 4 * k + d by omega]; exact hT) hSf hRf hfa hra hE hS (lv_sub hl [0, 2, 3, 4, 5, 6, 7] rfl)
                    · skip
                      have hd : d < 4 := lp_in (n := 4) hd0 c_71 (by omega)
                      have hQ := hQ0.ext hE
                      have hm := hI.m
                      have hRk := hI.2.1 k hkx
                      obtain ⟨d1, hd1⟩ := hRk.2
                      obtain ⟨n8, en8⟩ : ∃ n, n9 = n + 1 := ⟨n9 - 1, by omega⟩
                      have hT5 : bfR st n8 (4 * k + (d + 1)) (bfStep st k d x) = bfT st a := by rw [← hT, en8, bfR_go hkx hd]
                      have hn5 : 500 ≤ n8 + (4 * k + (d + 1)) := by omega
                      have hI5 := hI.step hkx hd
                      have hcl : Cl (bfC x k d) := bes_cl ⟨_, hRk.1, rfl⟩ ⟨d, hd, rfl⟩
                      refine lv_aload hx hb dX2_way_74 (lv_at hl 3 rfl) ?_
                      refine lv_iload hx hb dX2_way_76 (lv_at hl 1 rfl) ?_
                      refine g_iald C hra (vp_in_nI (by omega) (by omega)) dX2_way_78 ?_
                      refine lv_seti (y := nI (x.2.1 k)) (by rw [nI_clamp (by omega)]; exact hRf k hkx) ?_
                      refine lv_iload hx hb dX2_way_79 (lv_at hl 0 rfl) ?_
                      refine cv_X2_67 C hS (m_X1_beside z l) (Nat.le_of_ble_eq_true rfl) hl.1 (Nat.le_of_ble_eq_true rfl) (by omega) (by omega) dX2_way_81 (fun r_81 h_81 => ?_)
                      subst h_81
                      refine lv_seti (y := bfC x k d) rfl ?_
                      refine lv_istore (lv' := [(8, _), (7, _), (6, _), (5, _), (4, _), (3, _), (0, _), (1, _), (2, _)]) hx hb dX2_way_84 hl (by decide) rfl (fun ls hl => ?_)
                      refine lv_aload_n hx hb dX2_way_86 rfl (lv_at hl 6 rfl) ?_
                      refine lv_iload hx hb dX2_way_87 (lv_at hl 0 rfl) ?_
                      refine cv_X2_121 C hQ.q hS (m_X2_isFree z l hQ hcl) (Nat.le_of_ble_eq_true rfl) hl.1 (Nat.le_of_ble_eq_true rfl) (by omega) (by omega) dX2_way_89 (fun r_89 h_89 => ?_)
                      subst h_89
                      refine lv_if_eq (tgt := 129) hx hb dX2_way_92 (by decide) (fun c_92 => ?_) (fun c_92 => ?_)
                      · skip
                        have hfr := bI_f c_92
                        have hbb : bfB st x k d = false := by unfold bfB; rw [hfr]; rfl
                        have hsp : bfStep st k d x = x := by unfold bfStep; rw [hbb]; rfl
                        have hkx5 : k < (bfStep st k d x).2.2 := by rw [hsp]; exact hkx
                        have hSf5 : Sf f (bfStep st k d x).1 := by rw [hsp]; exact hSf
                        have hRf5 : Rf g (bfStep st k d x).2.1 (bfStep st k d x).2.2 := by rw [hsp]; exact hRf
                        have hm5 : nI (bfStep st k d x).2.2 = nI x.2.2 := by rw [hsp]
                        refine lv_iinc (lv' := [(7, _), (8, _), (6, _), (5, _), (4, _), (3, _), (0, _), (1, _), (2, _)]) hx hb dX2_way_129 hl (k := 1) rfl (v := nI (d + 1)) (nI_1 d) (by decide) rfl (fun ls hl => ?_)
                        refine lv_goto (tgt := 68) hx hb dX2_way_132 (by decide) ?_
                        exact ih (d + 1) _ _ _ _ _ _ _ (by omega) (by omega) hkx5 hI5 hn5 hT5 hSf5 hRf5 hfa hra hE hS (by rw [hm5]; first | exact lv_sub hl [0, 2, 3, 4, 5, 6, 7, 8] rfl | exact lv_sub hl [0, 3, 1, 4, 5, 6, 7, 8] rfl)
                      · skip
                        have hfr := bI_t c_92
                        have hcb := frB_b hfr hcl
                        have hcc := hcb.cl (by omega)
                        refine lv_aload_n hx hb dX2_way_95 rfl (lv_at hl 5 rfl) ?_
                        refine lv_iload hx hb dX2_way_96 (lv_at hl 0 rfl) ?_
                        refine g_iald C hfa (hcb.in (by omega) (by omega)) dX2_way_98 ?_
                        refine lv_seti (y := sV (x.1 (cN (bfC x k d)))) (hSf _ hcc.2) ?_
                        refine lv_iconst (v := (-1)) hx hb dX2_way_99 (by decide) ?_
                        refine lv_icmp_eq (tgt := 106) hx hb dX2_way_100 (by decide) (fun c_100 => ?_) (fun c_100 => ?_)
                        · skip
                          have hno : x.1 (cN (bfC x k d)) = none := by
                            cases hh : x.1 (cN (bfC x k d)) with
                            | none => rfl
                            | some e =>
                              rw [hh] at c_100
                              exact absurd c_100 ((show Bd (nI e) 200 from ⟨e, by have := (hI.2.2 _ _ hh).1; omega, rfl⟩).ne (by omega))
                          have hbb : bfB st x k d = true := by unfold bfB; rw [hfr, hno]; rfl
                          have hsp : bfStep st k d x = bfS x k d := by unfold bfStep; rw [hbb]; rfl
                          have hm8 := (hI.S hkx hd hbb).2
                          refine lv_aload_n hx hb dX2_way_106 rfl (lv_at hl 5 rfl) ?_
                          refine lv_iload hx hb dX2_way_107 (lv_at hl 0 rfl) ?_
                          refine lv_aload_n hx hb dX2_way_109 rfl (lv_at hl 5 rfl) ?_
                          refine lv_aload hx hb dX2_way_110 (lv_at hl 4 rfl) ?_
                          refine lv_iload hx hb dX2_way_112 (lv_at hl 2 rfl) ?_
                          refine g_iald C hra (vp_in_nI (by omega) (by omega)) dX2_way_114 ?_
                          refine lv_seti (y := nI (x.2.1 k)) (by rw [nI_clamp (by omega)]; exact hRf k hkx) ?_
                          refine g_iald C hfa (vp_in_nI hRk.1 (by omega)) dX2_way_115 ?_
                          refine lv_seti (y := nI d1) (by rw [nI_clamp (by omega), hSf _ hRk.1, hd1]; rfl) ?_
                          refine lv_iconst (v := 1) hx hb dX2_way_116 (by decide) ?_
                          refine lv_iadd hx hb dX2_way_117 ?_
                          rw [nI_1]
                          refine g_iast C hfa (hcb.in (by omega) (by omega)) hS hA dX2_way_118 (fun H1 locs hu hS => ?_)
                          have hu1 := hu
                          refine lv_aload hx hb dX2_way_119 (lv_at hl 4 rfl) ?_
                          refine lv_iload hx hb dX2_way_121 (lv_at hl 3 rfl) ?_
                          refine lv_iload hx hb dX2_way_123 (lv_at hl 0 rfl) ?_
                          refine lv_seti (y := nI (cN (bfC x k d))) hcc.1 ?_
                          refine g_iast C (hra.up hu1 (by omega)) (vp_in_nI hm8 (by omega)) hS hA2 dX2_way_125 (fun H1 locs hu hS => ?_)
                          rw [nI_clamp (by omega)] at hu
                          have hkx5 : k < (bfStep st k d x).2.2 := by rw [hsp]; exact Nat.lt_succ_of_lt hkx
                          have hSf5 : Sf (upd f (cN (bfC x k d)) (nI (d1 + 1))) (bfStep st k d x).1 := by
                            rw [hsp]
                            have := hSf.up (cN (bfC x k d)) ((x.1 (x.2.1 k)).getD 0 + 1)
                            rw [hd1] at this
                            show Sf _ (upO x.1 (cN (bfC x k d)) ((x.1 (x.2.1 k)).getD 0 + 1))
                            rw [hd1]
                            exact this
                          have hRf5 : Rf (upd g x.2.2 (nI (cN (bfC x k d)))) (bfStep st k d x).2.1 (bfStep st k d x).2.2 := by rw [hsp]; exact hRf.up _
                          have hm5 : nI (bfStep st k d x).2.2 = nI (x.2.2 + 1) := by rw [hsp]; rfl
                          have hfa := hu1.1.up hu (by omega)
                          have hra := hu.1
                          have hE : Ext H H1 := ⟨by rw [hu.2.1, hu1.2.1]; exact hE.1, fun q hq => by rw [hu.2.2 q (by omega), hu1.2.2 q (by omega), hE.2 q hq]⟩
                          refine lv_iinc (lv' := [(5, _), (8, _), (7, _), (6, _), (4, _), (3, _), (0, _), (1, _), (2, _)]) hx hb dX2_way_126 hl (k := 3) rfl (v := nI (x.2.2 + 1)) (nI_1 x.2.2) (by decide) rfl (fun ls hl => ?_)
                          refine lv_iinc (lv' := [(7, _), (5, _), (8, _), (6, _), (4, _), (3, _), (0, _), (1, _), (2, _)]) hx hb dX2_way_129 hl (k := 2) rfl (v := nI (d + 1)) (nI_1 d) (by decide) rfl (fun ls hl => ?_)
                          refine lv_goto (tgt := 68) hx hb dX2_way_132 (by decide) ?_
                          exact ih (d + 1) _ _ _ _ _ _ _ (by omega) (by omega) hkx5 hI5 hn5 hT5 hSf5 hRf5 hfa hra hE hS (by rw [hm5]; first | exact lv_sub hl [0, 2, 3, 4, 5, 6, 7, 8] rfl | exact lv_sub hl [0, 3, 1, 4, 5, 6, 7, 8] rfl)
                        · skip
                          have hbb : bfB st x k d = false := by
                            unfold bfB
                            cases hh : x.1 (cN (bfC x k d)) with
                            | none =>
                              rw [hh] at c_100
                              exact absurd rfl c_100
                            | some e => rw [hfr]; rfl
                          have hsp : bfStep st k d x = x := by unfold bfStep; rw [hbb]; rfl
                          have hkx5 : k < (bfStep st k d x).2.2 := by rw [hsp]; exact hkx
                          have hSf5 : Sf f (bfStep st k d x).1 := by rw [hsp]; exact hSf
                          have hRf5 : Rf g (bfStep st k d x).2.1 (bfStep st k d x).2.2 := by rw [hsp]; exact hRf
                          have hm5 : nI (bfStep st k d x).2.2 = nI x.2.2 := by rw [hsp]
                          refine lv_goto (tgt := 129) hx hb dX2_way_103 (by decide) ?_
                          refine lv_iinc (lv' := [(7, _), (8, _), (6, _), (5, _), (4, _), (3, _), (0, _), (1, _), (2, _)]) hx hb dX2_way_129 hl (k := 1) rfl (v := nI (d + 1)) (nI_1 d) (by decide) rfl (fun ls hl => ?_)
                          refine lv_goto (tgt := 68) hx hb dX2_way_132 (by decide) ?_
                          exact ih (d + 1) _ _ _ _ _ _ _ (by omega) (by omega) hkx5 hI5 hn5 hT5 hSf5 hRf5 hfa hra hE hS (by rw [hm5]; first | exact lv_sub hl [0, 2, 3, 4, 5, 6, 7, 8] rfl | exact lv_sub hl [0, 3, 1, 4, 5, 6, 7, 8] rfl)
                exact L68 5 0 x n9 _ _ _ _ _ (by omega) (by omega) hk hI (by omega) hT hSf hRf hfa hra hE hS (by rw [nI_0]; exact hl)
          exact L58 109 0 x9 1000 _ _ _ _ _ (by omega) (by omega) hI9 (by omega) hT9 hSf hRf hfb hrb hEb hS (by first | (rw [nI_0]; exact hl) | (rw [nI_0]; exact lv_sub hl [0, 1, 2, 3, 4, 5, 6] rfl))
      · skip
        have hk : k < 108 := lp_in hk0 c_18 (by omega)
        refine lv_aload_n hx hb dX2_way_21 rfl (lv_at hl 2 rfl) ?_
        refine lv_iload hx hb dX2_way_22 (lv_at hl 0 rfl) ?_
        refine lv_iconst (v := (-1)) hx hb dX2_way_24 (by decide) ?_
        refine g_iast C hfa (vp_in_nI hk (by omega)) hS hA dX2_way_25 (fun H1 locs hu hS => ?_)
        rw [nI_clamp (by omega)] at hu
        have hE4 : Ext H H1 := ⟨by rw [hu.2.1]; exact hE.1, fun q hq => by rw [hu.2.2 q (by omega), hE.2 q hq]⟩
        have hQ4 : QW z F ad st gh H1 := hQ0.ext hE4
        refine lv_iinc (lv' := [(5, _), (4, _), (3, _), (0, _), (1, _), (2, _)]) hx hb dX2_way_26 hl (k := 0) rfl (v := nI (k + 1)) (nI_1 k) (by decide) rfl (fun ls hl => ?_)
        refine lv_goto (tgt := 14) hx hb dX2_way_29 (by decide) ?_
        exact ih (k + 1) _ _ _ g _ (by omega) (by omega) (fun n hn => by
            unfold upd
            split
            · rfl
            · exact hf n (by omega)) hu.1 (hra.up hu (by omega)) hE4 hS hl
  exact L14 109 0 _ _ _ _ _ (by omega) (by omega) (fun n hn => by omega) hfa hra hE hS (by rw [nI_0]; exact hl)

