set_option maxRecDepth 100000
/-! the state of a quarter as numbers: rows 0 cells, 1 at, 2 people, 3 torch, 4 many, 5 orders, 6 missed, 7 post, 8 next, 9 [step], 10 [crowds, patrols], 11 length, 12 round -/
abbrev St : Type := Nat → Nat → Int32
def sSet (st : St) (f k : Nat) (v : Int32) : St := fun g => if g = f then upd (st g) k v else st g
def nC (st : St) : Nat := (st 10 0).toNatClampNeg
def nP (st : St) : Nat := (st 10 1).toNatClampNeg
def cN (x : Int32) : Nat := x.toNatClampNeg
def mC (st : St) (i : Nat) : Nat := (st 4 i).toNatClampNeg
def anyTo (f : Nat → Bool) : Nat → Bool
  | 0 => false
  | n + 1 => anyTo f n || f n
def sumTo (f : Nat → Int32) : Nat → Int32
  | 0 => 0
  | n + 1 => sumTo f n + f n
def itTo (f : Nat → St → St) : Nat → St → St
  | 0, st => st
  | n + 1, st => f n (itTo f n st)
def Bd (x : Int32) (b : Nat) : Prop := ∃ j, j < b ∧ x = nI j
theorem Bd.cl {x : Int32} {b : Nat} (h : Bd x b) (hb : b ≤ 2 ^ 30) : x = nI (cN x) ∧ cN x < b := by
  obtain ⟨j, hj, rfl⟩ := h
  unfold cN
  rw [nI_clamp (by omega)]
  exact ⟨rfl, hj⟩
theorem Bd.in {x : Int32} {b n : Nat} (h : Bd x b) (hb : b ≤ n) (hn : n ≤ 2 ^ 30) : vp_in x n := by
  obtain ⟨j, hj, rfl⟩ := h
  exact vp_in_nI (by omega) (by omega)
def Inv (st : St) : Prop :=
  (st 10 0 = nI (nC st) ∧ nC st ≤ 6 ∧ st 10 1 = nI (nP st) ∧ nP st ≤ 3) ∧ (∀ k, k < 108 → Bd (st 0 k + 1) 5) ∧
  (∀ c, c < nC st → Bd (st 1 c) 108 ∧ Bd (st 2 c) 10 ∧ Bd (st 3 c) 2 ∧ Bd (st 4 c) 25 ∧ ∀ k, k < mC st c → Bd (st 5 (24 * c + k)) 12) ∧
  (∀ p, p < nP st → Bd (st 7 p) 108 ∧ Bd (st 11 p - 1) 12 ∧ Bd (st 8 p) (cN (st 11 p)) ∧ ∀ k, k < cN (st 11 p) → Bd (st 12 (12 * p + k)) 4) ∧
  (∀ c, nC st ≤ c → st 4 c = 0 ∧ st 6 c = 0) ∧ ∀ p, nP st ≤ p → st 8 p = 0
/-! what a quarter's objects hold -/
abbrev Gh : Type := (Nat → Int32) × (Nat → Nat)
def lsz (st : St) : Nat → Nat
  | 0 => nC st
  | 1 => nP st
  | i + 2 => mC st i
def qel (z : Zt) (ad : Nat → Nat → Nat) (st : St) : Nat → Nat → Option Nat
  | 0 => fun k => if k < nC st then some (ad 4 k) else none
  | 1 => fun k => if k < nP st then some (ad 5 k) else none
  | i + 2 => fun k => if k < mC st i then some (zi z (cN (st 5 (24 * i + k)) + 128)) else none
def eA (z : Zt) (ad : Nat → Nat → Nat) (gh : Gh) (i : Nat) : Nat := if gh.2 i = 0 then zs z 0 else ad 3 i
def ctQ (z : Zt) (ad : Nat → Nat → Nat) (st : St) (gh : Gh) : Nat → Nat → va_E
  | 0, _ => .inr (1, [.int (st 9 0), .ref (ad 1 0), .ref (ad 2 0), .ref (ad 2 1)])
  | 1, _ => aI z 108 (st 0)
  | 2, i => .inr (2, [.int (gh.1 i), .ref (eA z ad gh i), .int (nI (lsz st i))])
  | 3, i => aQ z (gh.2 i) (qel z ad st i)
  | 4, i => .inr (5, [.int (st 1 i), .int (st 2 i), .int (st 3 i), .int (st 6 i), .ref (ad 2 (i + 2))])
  | 5, i => .inr (6, [.int (st 7 i), .ref (ad 6 i), .int (st 8 i)])
  | _, i => aI z (cN (st 11 i)) (fun k => st 12 (12 * i + k))
def Vq (st : St) (gh : Gh) : Nat → Nat → Prop
  | 0, i => i = 0
  | 1, i => i = 0
  | 2, i => i < nC st + 2
  | 3, i => i < nC st + 2 ∧ 0 < gh.2 i
  | 4, i => i < nC st
  | 5, i => i < nP st
  | 6, i => i < nP st
  | _, _ => False
def QW (z : Zt) (F : Nat → Prop) (ad : Nat → Nat → Nat) (st : St) (gh : Gh) (H : Heap) : Prop :=
  (∀ k i, Vq st gh k i → c1 z (ad k i) (ctQ z ad st gh k i) H) ∧ (∀ k i k' i', Vq st gh k i → Vq st gh k' i' → ad k i = ad k' i' → k = k' ∧ i = i') ∧
  (∀ k i, Vq st gh k i → k < 6 → F (ad k i)) ∧ (∀ k i, Vq st gh k i → AA z (ad k i)) ∧ Inv st ∧ ∀ i, i < nC st + 2 → lsz st i ≤ gh.2 i ∧ gh.2 i ≤ 34
section QWL
variable {z : Zt} {F : Nat → Prop} {ad : Nat → Nat → Nat} {st : St} {gh : Gh} {H H1 : Heap}
theorem QW.q (h : QW z F ad st gh H) : c1 z (ad 0 0) (.inr (1, [.int (st 9 0), .ref (ad 1 0), .ref (ad 2 0), .ref (ad 2 1)])) H := h.1 0 0 rfl
theorem QW.cs (h : QW z F ad st gh H) : c1 z (ad 1 0) (aI z 108 (st 0)) H := h.1 1 0 rfl
theorem QW.l (h : QW z F ad st gh H) {i : Nat} (hi : i < nC st + 2) : c1 z (ad 2 i) (.inr (2, [.int (gh.1 i), .ref (eA z ad gh i), .int (nI (lsz st i))])) H := h.1 2 i hi
theorem QW.lc (h : QW z F ad st gh H) : c1 z (ad 2 0) (.inr (2, [.int (gh.1 0), .ref (eA z ad gh 0), .int (nI (nC st))])) H := h.1 2 0 (show 0 < nC st + 2 by omega)
theorem QW.lp (h : QW z F ad st gh H) : c1 z (ad 2 1) (.inr (2, [.int (gh.1 1), .ref (eA z ad gh 1), .int (nI (nP st))])) H := h.1 2 1 (show 1 < nC st + 2 by omega)
theorem QW.lo (h : QW z F ad st gh H) {i : Nat} (hi : i < nC st) : c1 z (ad 2 (i + 2)) (.inr (2, [.int (gh.1 (i + 2)), .ref (eA z ad gh (i + 2)), .int (nI (mC st i))])) H := h.1 2 (i + 2) (show i + 2 < nC st + 2 by omega)
theorem QW.cap (h : QW z F ad st gh H) {i : Nat} (hi : i < nC st + 2) : lsz st i ≤ gh.2 i ∧ gh.2 i ≤ 34 := h.2.2.2.2.2 i hi
theorem QW.ea (h : QW z F ad st gh H) {i : Nat} (hi : i < nC st + 2) (h0 : 0 < gh.2 i) : c1 z (eA z ad gh i) (aQ z (gh.2 i) (qel z ad st i)) H := by
  have h1 := h.1 3 i ⟨hi, h0⟩
  unfold eA
  rw [if_neg (by omega)]
  exact h1
theorem QW.eL (h : QW z F ad st gh H) {i : Nat} (hi : i < nC st + 2) : (gh.2 i = 0 ∧ eA z ad gh i = zs z 0) ∨ (0 < gh.2 i ∧ c1 z (eA z ad gh i) (aQ z (gh.2 i) (qel z ad st i)) H) := by
  rcases Nat.eq_zero_or_pos (gh.2 i) with h0 | h0
  · exact Or.inl ⟨h0, by unfold eA; rw [if_pos h0]⟩
  · exact Or.inr ⟨h0, h.ea hi h0⟩
theorem QW.c (h : QW z F ad st gh H) {i : Nat} (hi : i < nC st) : c1 z (ad 4 i) (.inr (5, [.int (st 1 i), .int (st 2 i), .int (st 3 i), .int (st 6 i), .ref (ad 2 (i + 2))])) H := h.1 4 i hi
theorem QW.p (h : QW z F ad st gh H) {i : Nat} (hi : i < nP st) : c1 z (ad 5 i) (.inr (6, [.int (st 7 i), .ref (ad 6 i), .int (st 8 i)])) H := h.1 5 i hi
theorem QW.r (h : QW z F ad st gh H) {i : Nat} (hi : i < nP st) : c1 z (ad 6 i) (aI z (cN (st 11 i)) (fun k => st 12 (12 * i + k))) H := h.1 6 i hi
theorem QW.inv (h : QW z F ad st gh H) : Inv st := h.2.2.2.2.1
theorem QW.ap (h : QW z F ad st gh H) {k i k' i' : Nat} (h1 : Vq st gh k i) (h2 : Vq st gh k' i') (hn : ¬ (k = k' ∧ i = i')) : ad k i ≠ ad k' i' := fun e => hn (h.2.1 k i k' i' h1 h2 e)
theorem QW.aa (h : QW z F ad st gh H) {k i : Nat} (h1 : Vq st gh k i) : AA z (ad k i) := h.2.2.2.1 k i h1
/-- one cell of the picture is changed -/
theorem QW.up1 (h : QW z F ad st gh H) {st' : St} {gh' : Gh} (k0 i0 : Nat) {e : va_E} (hV0 : Vq st gh k0 i0) (hV : ∀ k i, Vq st' gh' k i → Vq st gh k i) (he : ctQ z ad st' gh' k0 i0 = e) (hc : ∀ k i, Vq st' gh' k i → ¬ (k = k0 ∧ i = i0) → ctQ z ad st' gh' k i = ctQ z ad st gh k i) (hu : Up z (ad k0 i0) e H H1) (hI : Inv st') (hcap : ∀ i, i < nC st' + 2 → lsz st' i ≤ gh'.2 i ∧ gh'.2 i ≤ 34) : QW z F ad st' gh' H1 := by
  refine ⟨fun k i hv => ?_, fun k i k' i' h1 h2 e => h.2.1 k i k' i' (hV k i h1) (hV k' i' h2) e, fun k i hv hk => h.2.2.1 k i (hV k i hv) hk, fun k i hv => h.2.2.2.1 k i (hV k i hv), hI, hcap⟩
  by_cases hh : k = k0 ∧ i = i0
  · obtain ⟨rfl, rfl⟩ := hh
    rw [he]
    exact hu.1
  · rw [hc k i hv hh]
    exact (h.1 k i (hV k i hv)).up hu (h.ap (hV k i hv) hV0 hh)
theorem QW.kept (h : QW z F ad st gh H) (hk : ∀ k i, Vq st gh k i → H1[ad k i]? = H[ad k i]?) : QW z F ad st gh H1 := ⟨fun k i hv => (h.1 k i hv).kept (hk k i hv), h.2⟩
theorem QW.ext (h : QW z F ad st gh H) (g : Ext H H1) : QW z F ad st gh H1 := h.kept (fun k i hv => g.2 _ (h.1 k i hv).lt)
theorem QW.nCi (h : QW z F ad st gh H) : nC st ≤ 6 := h.inv.1.2.1
theorem QW.nPi (h : QW z F ad st gh H) : nP st ≤ 3 := h.inv.1.2.2.2
theorem QW.mCi (h : QW z F ad st gh H) {i : Nat} (hi : i < nC st) : mC st i ≤ 24 ∧ st 4 i = nI (mC st i) := by
  obtain ⟨-, -, -, h4, -⟩ := h.inv.2.2.1 i hi
  have h5 := h4.cl (by omega)
  exact ⟨by have := h5.2; unfold cN at this; unfold mC; omega, h5.1⟩
/-- an element of the crowds' list is a crowd -/
theorem QW.el0 {k : Nat} (hk : k < nC st) : qel z ad st 0 k = some (ad 4 k) := if_pos hk
theorem QW.el1 {k : Nat} (hk : k < nP st) : qel z ad st 1 k = some (ad 5 k) := if_pos hk
theorem QW.el2 {i k : Nat} (hk : k < mC st i) : qel z ad st (i + 2) k = some (zi z (cN (st 5 (24 * i + k)) + 128)) := if_pos hk
theorem QW.c0 (h : QW z F ad st gh H) {k : Nat} (hk : k < nC st) : 0 < gh.2 0 := by have := (h.cap (i := 0) (by omega)).1; simp only [lsz] at this; omega
theorem QW.c1' (h : QW z F ad st gh H) {k : Nat} (hk : k < nP st) : 0 < gh.2 1 := by have := (h.cap (i := 1) (by omega)).1; simp only [lsz] at this; omega
end QWL
/-! plain laws of the rows -/
theorem sSet_same (st : St) (f k : Nat) (v : Int32) : sSet st f k v f k = v := by simp [sSet, upd]
theorem sSet_row (st : St) (f g k : Nat) (v : Int32) (h : g ≠ f) : sSet st f k v g = st g := by simp [sSet, h]
theorem sSet_ne (st : St) (f g k j : Nat) (v : Int32) (h : j ≠ k) : sSet st f k v g j = st g j := by
  unfold sSet
  split
  · simp [upd, h]
  · rfl
def frB (st : St) (x : Int32) : Bool := !(x == -1) && st 0 (cN x) == 0
def laB (st : St) (x : Int32) : Bool := !(x == -1) && !(st 0 (cN x) == -1)
def Cl (x : Int32) : Prop := x = -1 ∨ Bd x 108
def bzC (st : St) (x : Int32) (c : Nat) : Bool := decide (0 < st 2 c) && st 1 c == x
def bzP (st : St) (x : Int32) (p : Nat) : Bool := st 7 p == x
def bzB (st : St) (x : Int32) : Bool := anyTo (bzC st x) (nC st) || anyTo (bzP st x) (nP st)
