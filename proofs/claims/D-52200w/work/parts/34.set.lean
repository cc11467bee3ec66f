set_option maxRecDepth 100000
/-! values of a cell -/
def CV (x : Int32) : Prop := Bd (x + 1) 5
theorem cv_ex {x : Int32} (h : CV x) : ∃ i, i < 5 ∧ x = nI i - 1 := by
  obtain ⟨i, hi, e⟩ := h
  exact ⟨i, hi, by rw [← e]; grind⟩
def cvc (f : Int32 → Bool) (g : Int32 → Int32) : Bool := (List.range 5).all fun i => !(f (nI i - 1)) || decide ((g (nI i - 1) + 1).toBitVec.toNat < 5)
theorem cv_by {f : Int32 → Bool} {g : Int32 → Int32} (h : cvc f g = true) {x : Int32} (hx : CV x) (hf : f x = true) : CV (g x) := by
  obtain ⟨i, hi, rfl⟩ := cv_ex hx
  have h1 := List.all_eq_true.mp h i (List.mem_range.mpr hi)
  rw [hf] at h1
  exact bd_of_toNat (by simpa only [Bool.not_true, Bool.false_or, decide_eq_true_eq] using h1) (by omega)
theorem cv_up {x : Int32} (h : CV x) (h1 : ¬ x = -1) (h2 : ¬ x = 3) : CV (x + 1) := cv_by (f := fun x => !(x == -1) && !(x == 3)) (g := fun x => x + 1) (by decide +kernel) h (by simp [h1, h2])
theorem cv_dn {x : Int32} (h : CV x) (h1 : ¬ x = -1) (h2 : ¬ x = 0) : CV (x - 1) := cv_by (f := fun x => !(x == -1) && !(x == 0)) (g := fun x => x - 1) (by decide +kernel) h (by simp [h1, h2])
def cvc2 : Bool := (List.range 5).all fun j => !(decide (0 < nI j - 1)) || cvc (fun x => !(x == -1) && !(decide (3 < x + (nI j - 1)))) (fun x => x + (nI j - 1))
theorem cvc2_ok : cvc2 = true := by decide +kernel
theorem cv_push {x y : Int32} (h : CV x) (hy : CV y) (h1 : ¬ x = -1) (h2 : 0 < y) (h3 : ¬ 3 < x + y) : CV (x + y) := by
  obtain ⟨j, hj, rfl⟩ := cv_ex hy
  have h4 := List.all_eq_true.mp cvc2_ok j (List.mem_range.mpr hj)
  rw [decide_eq_true h2] at h4
  rw [Bool.not_true, Bool.false_or] at h4
  exact cv_by (f := fun x => !(x == -1) && !(decide (3 < x + (nI j - 1)))) (g := fun x => x + (nI j - 1)) h4 h (by simp only [Bool.and_eq_true, Bool.not_eq_true', beq_eq_false_iff_ne, decide_eq_false_iff_not]; exact ⟨h1, h3⟩)
theorem cv_0 : CV 0 := ⟨1, by omega, by decide⟩
/-! the rows kept -/
section INV
variable {st : St}
theorem Inv.set0 (h : Inv st) {k : Nat} {v : Int32} (hv : CV v) : Inv (sSet st 0 k v) := by
  obtain ⟨h1, h2, h3, h4, h5, h6⟩ := h
  refine ⟨h1, fun j hj => ?_, h3, h4, h5, h6⟩
  by_cases e : j = k
  · subst e; rw [sSet_same]; exact hv
  · rw [sSet_ne _ _ _ _ _ _ e]; exact h2 j hj
theorem Inv.set1 (h : Inv st) {i : Nat} {v : Int32} (hv : Bd v 108) : Inv (sSet st 1 i v) := by
  obtain ⟨h1, h2, h3, h4, h5, h6⟩ := h
  refine ⟨h1, h2, fun c hc => ?_, h4, h5, h6⟩
  have h9 := h3 c hc
  refine ⟨?_, h9.2⟩
  by_cases e : c = i
  · subst e; rw [sSet_same]; exact hv
  · rw [sSet_ne _ _ _ _ _ _ e]; exact h9.1
theorem Inv.set2 (h : Inv st) {i : Nat} {v : Int32} (hv : Bd v 10) : Inv (sSet st 2 i v) := by
  obtain ⟨h1, h2, h3, h4, h5, h6⟩ := h
  refine ⟨h1, h2, fun c hc => ?_, h4, h5, h6⟩
  have h9 := h3 c hc
  refine ⟨h9.1, ?_, h9.2.2⟩
  by_cases e : c = i
  · subst e; rw [sSet_same]; exact hv
  · rw [sSet_ne _ _ _ _ _ _ e]; exact h9.2.1
theorem Inv.set3 (h : Inv st) {i : Nat} {v : Int32} (hv : Bd v 2) : Inv (sSet st 3 i v) := by
  obtain ⟨h1, h2, h3, h4, h5, h6⟩ := h
  refine ⟨h1, h2, fun c hc => ?_, h4, h5, h6⟩
  have h9 := h3 c hc
  refine ⟨h9.1, h9.2.1, ?_, h9.2.2.2⟩
  by_cases e : c = i
  · subst e; rw [sSet_same]; exact hv
  · rw [sSet_ne _ _ _ _ _ _ e]; exact h9.2.2.1
theorem Inv.set6 (h : Inv st) {i : Nat} {v : Int32} (hi : i < nC st) : Inv (sSet st 6 i v) := by
  obtain ⟨h1, h2, h3, h4, h5, h6⟩ := h
  refine ⟨h1, h2, h3, h4, fun c hc => ⟨(h5 c hc).1, ?_⟩, h6⟩
  have hc' : nC st ≤ c := hc
  rw [sSet_ne _ _ _ _ _ _ (by omega)]
  exact (h5 c hc).2
theorem Inv.set7 (h : Inv st) {i : Nat} {v : Int32} (hv : Bd v 108) : Inv (sSet st 7 i v) := by
  obtain ⟨h1, h2, h3, h4, h5, h6⟩ := h
  refine ⟨h1, h2, h3, fun c hc => ?_, h5, h6⟩
  have h9 := h4 c hc
  refine ⟨?_, h9.2⟩
  by_cases e : c = i
  · subst e; rw [sSet_same]; exact hv
  · rw [sSet_ne _ _ _ _ _ _ e]; exact h9.1
theorem Inv.set8 (h : Inv st) {i : Nat} {v : Int32} (hi : i < nP st) (hv : Bd v (cN (st 11 i))) : Inv (sSet st 8 i v) := by
  obtain ⟨h1, h2, h3, h4, h5, h6⟩ := h
  refine ⟨h1, h2, h3, fun c hc => ?_, h5, fun c hc => ?_⟩
  · have h9 := h4 c hc
    refine ⟨h9.1, h9.2.1, ?_, h9.2.2.2⟩
    by_cases e : c = i
    · subst e; rw [sSet_same]; exact hv
    · rw [sSet_ne _ _ _ _ _ _ e]; exact h9.2.2.1
  · have hc' : nP st ≤ c := hc
    rw [sSet_ne _ _ _ _ _ _ (by omega)]
    exact h6 c hc
theorem Inv.set9 (h : Inv st) {v : Int32} : Inv (sSet st 9 0 v) := h
end INV
theorem Vq7 {st : St} {gh : Gh} {k i : Nat} (h : Vq st gh (k + 7) i) : False := by
  unfold Vq at h
  exact h
/-- a quarter behind a change: the same objects, other numbers; nothing else is changed -/
def QM (z : Zt) (F : Nat → Prop) (ad : Nat → Nat → Nat) (st' : St) (H H1 : Heap) : Prop := (∃ gh', QW z F ad st' gh' H1) ∧ H1.size = H.size ∧ ∀ q, ¬ F q → H1[q]? = H[q]?
theorem Vq.cs {st : St} {gh : Gh} {P : Nat → Nat → Prop} (h0 : P 0 0) (h1 : P 1 0) (h2 : ∀ i, i < nC st + 2 → P 2 i) (h3 : ∀ i, i < nC st + 2 → 0 < gh.2 i → P 3 i) (h4 : ∀ i, i < nC st → P 4 i) (h5 : ∀ i, i < nP st → P 5 i) (h6 : ∀ i, i < nP st → P 6 i) (k i : Nat) (hv : Vq st gh k i) : P k i := by
  match k, hv with
  | 0, hv => rw [show i = 0 from hv]; exact h0
  | 1, hv => rw [show i = 0 from hv]; exact h1
  | 2, hv => exact h2 i hv
  | 3, hv => exact h3 i hv.1 hv.2
  | 4, hv => exact h4 i hv
  | 5, hv => exact h5 i hv
  | 6, hv => exact h6 i hv
  | k + 7, hv => exact (Vq7 hv).elim
theorem lsz_cg {st st' : St} (e4 : st' 4 = st 4) (e10 : st' 10 = st 10) (i : Nat) : lsz st' i = lsz st i := by
  match i with
  | 0 => show (st' 10 0).toNatClampNeg = _; rw [e10]; rfl
  | 1 => show (st' 10 1).toNatClampNeg = _; rw [e10]; rfl
  | i + 2 => show (st' 4 i).toNatClampNeg = _; rw [e4]; rfl
theorem qel_cg {z : Zt} {ad : Nat → Nat → Nat} {st st' : St} (e4 : st' 4 = st 4) (e5 : st' 5 = st 5) (e10 : st' 10 = st 10) (i : Nat) : qel z ad st' i = qel z ad st i := by
  match i with
  | 0 => show (fun k => if k < (st' 10 0).toNatClampNeg then some (ad 4 k) else none) = _; rw [e10]; rfl
  | 1 => show (fun k => if k < (st' 10 1).toNatClampNeg then some (ad 5 k) else none) = _; rw [e10]; rfl
  | i + 2 => show (fun k => if k < (st' 4 i).toNatClampNeg then some (zi z (cN (st' 5 (24 * i + k)) + 128)) else none) = _; rw [e4, e5]; rfl
theorem Vq_cg {st st' : St} {gh : Gh} (e10 : st' 10 = st 10) (k i : Nat) (h : Vq st' gh k i) : Vq st gh k i := by
  have e1 : nC st' = nC st := by unfold nC; rw [e10]
  have e2 : nP st' = nP st := by unfold nP; rw [e10]
  revert h
  refine Vq.cs (P := fun k i => Vq st gh k i) rfl rfl (fun i hi => ?_) (fun i hi h => ?_) (fun i hi => ?_) (fun i hi => ?_) (fun i hi => ?_) k i
  · rw [e1] at hi; exact hi
  · rw [e1] at hi; exact ⟨hi, h⟩
  · rw [e1] at hi; exact hi
  · rw [e2] at hi; exact hi
  · rw [e2] at hi; exact hi
section CTE
variable {z : Zt} {ad : Nat → Nat → Nat} {st : St} {gh : Gh} {i : Nat}
theorem ct2 : ctQ z ad st gh 2 i = .inr (2, [.int (gh.1 i), .ref (eA z ad gh i), .int (nI (lsz st i))]) := rfl
theorem ct3 : ctQ z ad st gh 3 i = aQ z (gh.2 i) (qel z ad st i) := rfl
theorem ct4 : ctQ z ad st gh 4 i = .inr (5, [.int (st 1 i), .int (st 2 i), .int (st 3 i), .int (st 6 i), .ref (ad 2 (i + 2))]) := rfl
theorem ct5 : ctQ z ad st gh 5 i = .inr (6, [.int (st 7 i), .ref (ad 6 i), .int (st 8 i)]) := rfl
end CTE
section QST
variable {z : Zt} {F : Nat → Prop} {ad : Nat → Nat → Nat} {st : St} {gh : Gh} {H H1 H2 : Heap}
theorem QM.rf (h : QW z F ad st gh H) : QM z F ad st H H := ⟨⟨gh, h⟩, rfl, fun _ _ => rfl⟩
theorem QM.tr {st1 st2 : St} (h : QM z F ad st1 H H1) (g : QM z F ad st2 H1 H2) : QM z F ad st2 H H2 := ⟨g.1, by rw [g.2.1, h.2.1], fun q hq => by rw [g.2.2 q hq, h.2.2 q hq]⟩
theorem QM.of {st1 : St} {e : va_E} {k i : Nat} (h : QW z F ad st gh H) (hk : k < 6) (hv : Vq st gh k i) (hu : Up z (ad k i) e H H1) (g : QW z F ad st1 gh H1) : QM z F ad st1 H H1 := ⟨⟨gh, g⟩, hu.2.1, fun q hq => hu.2.2 q (fun e => hq (by rw [e]; exact h.2.2.1 k i hv hk))⟩
theorem cap_cg (h : QW z F ad st gh H) {st' : St} (e4 : st' 4 = st 4) (e10 : st' 10 = st 10) (i : Nat) (hi : i < nC st' + 2) : lsz st' i ≤ gh.2 i ∧ gh.2 i ≤ 34 := by
  rw [lsz_cg e4 e10]
  refine h.cap ?_
  unfold nC at hi
  rw [e10] at hi
  exact hi
theorem QW.set0 (h : QW z F ad st gh H) {k : Nat} {v : Int32} (hv : CV v) (hu : Up z (ad 1 0) (aI z 108 (upd (st 0) k v)) H H1) : QM z F ad (sSet st 0 k v) H H1 :=
  QM.of (k := 1) (i := 0) h (by omega) rfl hu (h.up1 1 0 rfl (Vq_cg rfl) rfl (Vq.cs (fun _ => rfl) (fun h => absurd ⟨rfl, rfl⟩ h) (fun j _ _ => by rw [ct2, ct2, lsz_cg (st := st) (st' := sSet st 0 k v) rfl rfl]) (fun j _ _ _ => by rw [ct3, ct3, qel_cg (st := st) (st' := sSet st 0 k v) rfl rfl rfl]) (fun _ _ _ => rfl) (fun _ _ _ => rfl) (fun _ _ _ => rfl)) hu (h.inv.set0 hv) (cap_cg h rfl rfl))
theorem QW.set9 (h : QW z F ad st gh H) {v : Int32} (hu : Up z (ad 0 0) (.inr (1, [.int v, .ref (ad 1 0), .ref (ad 2 0), .ref (ad 2 1)])) H H1) : QM z F ad (sSet st 9 0 v) H H1 :=
  QM.of (k := 0) (i := 0) h (by omega) rfl hu (h.up1 0 0 rfl (Vq_cg rfl) rfl (Vq.cs (fun h => absurd ⟨rfl, rfl⟩ h) (fun _ => rfl) (fun j _ _ => by rw [ct2, ct2, lsz_cg (st := st) (st' := sSet st 9 0 v) rfl rfl]) (fun j _ _ _ => by rw [ct3, ct3, qel_cg (st := st) (st' := sSet st 9 0 v) rfl rfl rfl]) (fun _ _ _ => rfl) (fun _ _ _ => rfl) (fun _ _ _ => rfl)) hu h.inv.set9 (cap_cg h rfl rfl))
theorem QW.set1 (h : QW z F ad st gh H) {i : Nat} (hi : i < nC st) {v : Int32} (hv : Bd v 108) (hu : Up z (ad 4 i) (.inr (5, [.int v, .int (st 2 i), .int (st 3 i), .int (st 6 i), .ref (ad 2 (i + 2))])) H H1) : QM z F ad (sSet st 1 i v) H H1 :=
  QM.of (k := 4) (i := i) h (by omega) hi hu (h.up1 4 i hi (Vq_cg rfl) (by rw [ct4, sSet_same]; rfl) (Vq.cs (fun _ => rfl) (fun _ => rfl) (fun j _ _ => by rw [ct2, ct2, lsz_cg (st := st) (st' := sSet st 1 i v) rfl rfl]) (fun j _ _ _ => by rw [ct3, ct3, qel_cg (st := st) (st' := sSet st 1 i v) rfl rfl rfl]) (fun j _ hn => by
    have hne : j ≠ i := fun e => hn ⟨rfl, e⟩
    rw [ct4, ct4, sSet_ne st 1 1 i j v hne]
    rfl) (fun _ _ _ => rfl) (fun _ _ _ => rfl)) hu (h.inv.set1 hv) (cap_cg h rfl rfl))
theorem QW.set2 (h : QW z F ad st gh H) {i : Nat} (hi : i < nC st) {v : Int32} (hv : Bd v 10) (hu : Up z (ad 4 i) (.inr (5, [.int (st 1 i), .int v, .int (st 3 i), .int (st 6 i), .ref (ad 2 (i + 2))])) H H1) : QM z F ad (sSet st 2 i v) H H1 :=
  QM.of (k := 4) (i := i) h (by omega) hi hu (h.up1 4 i hi (Vq_cg rfl) (by rw [ct4, sSet_same]; rfl) (Vq.cs (fun _ => rfl) (fun _ => rfl) (fun j _ _ => by rw [ct2, ct2, lsz_cg (st := st) (st' := sSet st 2 i v) rfl rfl]) (fun j _ _ _ => by rw [ct3, ct3, qel_cg (st := st) (st' := sSet st 2 i v) rfl rfl rfl]) (fun j _ hn => by
    have hne : j ≠ i := fun e => hn ⟨rfl, e⟩
    rw [ct4, ct4, sSet_ne st 2 2 i j v hne]
    rfl) (fun _ _ _ => rfl) (fun _ _ _ => rfl)) hu (h.inv.set2 hv) (cap_cg h rfl rfl))
theorem QW.set3 (h : QW z F ad st gh H) {i : Nat} (hi : i < nC st) {v : Int32} (hv : Bd v 2) (hu : Up z (ad 4 i) (.inr (5, [.int (st 1 i), .int (st 2 i), .int v, .int (st 6 i), .ref (ad 2 (i + 2))])) H H1) : QM z F ad (sSet st 3 i v) H H1 :=
  QM.of (k := 4) (i := i) h (by omega) hi hu (h.up1 4 i hi (Vq_cg rfl) (by rw [ct4, sSet_same]; rfl) (Vq.cs (fun _ => rfl) (fun _ => rfl) (fun j _ _ => by rw [ct2, ct2, lsz_cg (st := st) (st' := sSet st 3 i v) rfl rfl]) (fun j _ _ _ => by rw [ct3, ct3, qel_cg (st := st) (st' := sSet st 3 i v) rfl rfl rfl]) (fun j _ hn => by
    have hne : j ≠ i := fun e => hn ⟨rfl, e⟩
    rw [ct4, ct4, sSet_ne st 3 3 i j v hne]
    rfl) (fun _ _ _ => rfl) (fun _ _ _ => rfl)) hu (h.inv.set3 hv) (cap_cg h rfl rfl))
theorem QW.set6 (h : QW z F ad st gh H) {i : Nat} (hi : i < nC st) {v : Int32} (hu : Up z (ad 4 i) (.inr (5, [.int (st 1 i), .int (st 2 i), .int (st 3 i), .int v, .ref (ad 2 (i + 2))])) H H1) : QM z F ad (sSet st 6 i v) H H1 :=
  QM.of (k := 4) (i := i) h (by omega) hi hu (h.up1 4 i hi (Vq_cg rfl) (by rw [ct4, sSet_same]; rfl) (Vq.cs (fun _ => rfl) (fun _ => rfl) (fun j _ _ => by rw [ct2, ct2, lsz_cg (st := st) (st' := sSet st 6 i v) rfl rfl]) (fun j _ _ _ => by rw [ct3, ct3, qel_cg (st := st) (st' := sSet st 6 i v) rfl rfl rfl]) (fun j _ hn => by
    have hne : j ≠ i := fun e => hn ⟨rfl, e⟩
    rw [ct4, ct4, sSet_ne st 6 6 i j v hne]
    rfl) (fun _ _ _ => rfl) (fun _ _ _ => rfl)) hu (h.inv.set6 hi) (cap_cg h rfl rfl))
theorem QW.set7 (h : QW z F ad st gh H) {i : Nat} (hi : i < nP st) {v : Int32} (hv : Bd v 108) (hu : Up z (ad 5 i) (.inr (6, [.int v, .ref (ad 6 i), .int (st 8 i)])) H H1) : QM z F ad (sSet st 7 i v) H H1 :=
  QM.of (k := 5) (i := i) h (by omega) hi hu (h.up1 5 i hi (Vq_cg rfl) (by rw [ct5, sSet_same]; rfl) (Vq.cs (fun _ => rfl) (fun _ => rfl) (fun j _ _ => by rw [ct2, ct2, lsz_cg (st := st) (st' := sSet st 7 i v) rfl rfl]) (fun j _ _ _ => by rw [ct3, ct3, qel_cg (st := st) (st' := sSet st 7 i v) rfl rfl rfl]) (fun _ _ _ => rfl) (fun j _ hn => by
    have hne : j ≠ i := fun e => hn ⟨rfl, e⟩
    rw [ct5, ct5, sSet_ne st 7 7 i j v hne]
    rfl) (fun _ _ _ => rfl)) hu (h.inv.set7 hv) (cap_cg h rfl rfl))
theorem QW.set8 (h : QW z F ad st gh H) {i : Nat} (hi : i < nP st) {v : Int32} (hv : Bd v (cN (st 11 i))) (hu : Up z (ad 5 i) (.inr (6, [.int (st 7 i), .ref (ad 6 i), .int v])) H H1) : QM z F ad (sSet st 8 i v) H H1 :=
  QM.of (k := 5) (i := i) h (by omega) hi hu (h.up1 5 i hi (Vq_cg rfl) (by rw [ct5, sSet_same]; rfl) (Vq.cs (fun _ => rfl) (fun _ => rfl) (fun j _ _ => by rw [ct2, ct2, lsz_cg (st := st) (st' := sSet st 8 i v) rfl rfl]) (fun j _ _ _ => by rw [ct3, ct3, qel_cg (st := st) (st' := sSet st 8 i v) rfl rfl rfl]) (fun _ _ _ => rfl) (fun j _ hn => by
    have hne : j ≠ i := fun e => hn ⟨rfl, e⟩
    rw [ct5, ct5, sSet_ne st 8 8 i j v hne]
    rfl) (fun _ _ _ => rfl)) hu (h.inv.set8 hi hv) (cap_cg h rfl rfl))
end QST
