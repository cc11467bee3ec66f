set_option maxRecDepth 100000
theorem QW.mono {z : Zt} {F G : Nat → Prop} {ad : Nat → Nat → Nat} {st : St} {gh : Gh} {H : Heap} (h : QW z F ad st gh H) (hFG : ∀ q, F q → G q) : QW z G ad st gh H := ⟨h.1, h.2.1, fun k i hv hk => hFG _ (h.2.2.1 k i hv hk), h.2.2.2⟩
theorem QW.lt {z : Zt} {F : Nat → Prop} {ad : Nat → Nat → Nat} {st : St} {gh : Gh} {H : Heap} (h : QW z F ad st gh H) {k i : Nat} (hv : Vq st gh k i) : ad k i < H.size := (h.1 k i hv).lt
theorem AddR.fr {z : Zt} {a e : Nat} {md : Int32} {n cap : Nat} {f : Nat → Option Nat} {x : Nat} {H H1 : Heap} (h : AddR z a e md n cap f x H H1) (hL : cap = 0 → e = zs z 0) (hA1 : HA z H) (hA2 : HA z H1) (ho : ¬ AA z (zs z 0)) : ∀ q, q < H.size → q ≠ a → (0 < cap → q ≠ e) → H1[q]? = H[q]? := by
  intro q h1 h2 h3
  obtain ⟨e', cap', -, -, -, -, -, h6⟩ := h
  rcases Nat.eq_zero_or_pos cap with g | g
  · by_cases g9 : q = e
    · have h9 : ¬ AA z q := by rw [g9, hL g]; exact ho
      have h8 : q < (zH z).size := Nat.not_le.mp h9
      rw [hA2.2 q h8, hA1.2 q h8]
    · exact h6 q h1 h2 g9
  · exact h6 q h1 h2 (h3 g)
/-- a copy on its way: k crowds, j patrols -/
def cpS (st : St) (k j : Nat) : St := fun g i => if g = 4 ∨ g = 6 then (if i < k then st g i else 0) else if g = 8 then (if i < j then st 8 i else 0) else if g = 10 then (if i = 0 then nI k else if i = 1 then nI j else st 10 i) else st g i
section CPS
variable {st : St} {k j : Nat}
theorem cp_nC (hk : k < 1000) : nC (cpS st k j) = k := nI_clamp (by omega)
theorem cp_nP (hj : j < 1000) : nP (cpS st k j) = j := nI_clamp (by omega)
theorem cp_o {g : Nat} (h : g ≠ 4 ∧ g ≠ 6 ∧ g ≠ 8 ∧ g ≠ 10) : cpS st k j g = st g := by
  funext i
  unfold cpS
  rw [if_neg (by omega), if_neg (by omega), if_neg (by omega)]
theorem cp_4 {i : Nat} (h : i < k) : cpS st k j 4 i = st 4 i := if_pos h
theorem cp_6 {i : Nat} (h : i < k) : cpS st k j 6 i = st 6 i := if_pos h
theorem cp_8 {i : Nat} (h : i < j) : cpS st k j 8 i = st 8 i := if_pos h
theorem cp_4n {i : Nat} (h : k ≤ i) : cpS st k j 4 i = 0 := if_neg (show ¬ i < k by omega)
theorem cp_6n {i : Nat} (h : k ≤ i) : cpS st k j 6 i = 0 := if_neg (show ¬ i < k by omega)
theorem cp_8n {i : Nat} (h : j ≤ i) : cpS st k j 8 i = 0 := if_neg (show ¬ i < j by omega)
theorem cp_m {i : Nat} (h : i < k) : mC (cpS st k j) i = mC st i := by unfold mC; rw [cp_4 h]
theorem Inv.cp (h : Inv st) (hk : k ≤ nC st) (hj : j ≤ nP st) : Inv (cpS st k j) := by
  obtain ⟨h1, h2, h3, h4, h5, h6⟩ := h
  have e1 : nC (cpS st k j) = k := cp_nC (by omega)
  have e2 : nP (cpS st k j) = j := cp_nP (by omega)
  refine ⟨⟨by rw [e1]; rfl, by rw [e1]; omega, by rw [e2]; rfl, by rw [e2]; omega⟩, h2, fun c hc => ?_, fun p hp => ?_, fun c hc => ?_, fun p hp => ?_⟩
  · rw [e1] at hc
    have g := h3 c (by omega)
    exact ⟨g.1, g.2.1, g.2.2.1, by rw [cp_4 hc]; exact g.2.2.2.1, fun k9 hk9 => by rw [cp_m hc] at hk9; exact g.2.2.2.2 k9 hk9⟩
  · rw [e2] at hp
    have g := h4 p (by omega)
    exact ⟨g.1, g.2.1, by rw [cp_8 hp]; exact g.2.2.1, g.2.2.2⟩
  · rw [e1] at hc
    exact ⟨cp_4n hc, cp_6n hc⟩
  · rw [e2] at hp
    exact cp_8n hp
theorem cp_all (h : Inv st) : cpS st (nC st) (nP st) = st := by
  obtain ⟨h1, h2, h3, h4, h5, h6⟩ := h
  funext g i
  unfold cpS
  split
  · rename_i e
    split
    · rfl
    · rename_i hi
      have := h5 i (by omega)
      rcases e with rfl | rfl
      · exact this.1.symm
      · exact this.2.symm
  · split
    · rename_i e
      subst e
      split
      · rfl
      · exact (h6 i (by omega)).symm
    · split
      · rename_i e
        subst e
        split
        · rename_i e
          rw [e]
          exact h1.1.symm
        · split
          · rename_i e
            rw [e]
            exact h1.2.2.1.symm
          · rfl
      · rfl
end CPS
def ad0 (a n : Nat) : Nat → Nat → Nat := fun k i => if k = 0 then a else if k = 1 then n else n + 1 + i
theorem QW.zero {z : Zt} {F : Nat → Prop} {H1 : Heap} {st : St} {a n : Nat} (h0 : st 10 0 = nI 0) (h1 : st 10 1 = nI 0) (hI : Inv st) (ha : AA z a) (hn : AA z n) (han : a < n) (hF : ∀ q, (q = a ∨ n ≤ q) → F q)
    (c0 : c1 z a (.inr (1, [.int (st 9 0), .ref n, .ref (n + 1), .ref (n + 2)])) H1) (c2 : c1 z n (aI z 108 (st 0)) H1) (c3 : c1 z (n + 1) (.inr (2, [.int 0, .ref (zs z 0), .int (nI 0)])) H1) (c4 : c1 z (n + 2) (.inr (2, [.int 0, .ref (zs z 0), .int (nI 0)])) H1) : QW z F (ad0 a n) st (fun _ => 0, fun _ => 0) H1 := by
  have e1 : nC st = 0 := by unfold nC; rw [h0]; rfl
  have e2 : nP st = 0 := by unfold nP; rw [h1]; rfl
  have cls : ∀ k i, Vq st (fun _ => 0, fun _ => 0) k i → (k = 0 ∧ i = 0 ∧ ad0 a n k i = a) ∨ (k = 1 ∧ i = 0 ∧ ad0 a n k i = n) ∨ (k = 2 ∧ i = 0 ∧ ad0 a n k i = n + 1) ∨ (k = 2 ∧ i = 1 ∧ ad0 a n k i = n + 2) := by
    refine Vq.cs (P := fun k i => (k = 0 ∧ i = 0 ∧ ad0 a n k i = a) ∨ (k = 1 ∧ i = 0 ∧ ad0 a n k i = n) ∨ (k = 2 ∧ i = 0 ∧ ad0 a n k i = n + 1) ∨ (k = 2 ∧ i = 1 ∧ ad0 a n k i = n + 2)) (Or.inl ⟨rfl, rfl, rfl⟩) (Or.inr (Or.inl ⟨rfl, rfl, rfl⟩)) (fun i hi => ?_) (fun i hi h => ?_) (fun i hi => ?_) (fun i hi => ?_) (fun i hi => ?_)
    · rw [e1] at hi
      rcases (show i = 0 ∨ i = 1 by omega) with rfl | rfl
      · exact Or.inr (Or.inr (Or.inl ⟨rfl, rfl, rfl⟩))
      · exact Or.inr (Or.inr (Or.inr ⟨rfl, rfl, rfl⟩))
    · exact absurd h (Nat.lt_irrefl 0)
    · omega
    · omega
    · omega
  refine ⟨?_, ?_, ?_, ?_, hI, fun i hi => ?_⟩
  · refine Vq.cs (P := fun k i => c1 z (ad0 a n k i) (ctQ z (ad0 a n) st (fun _ => 0, fun _ => 0) k i) H1) c0 c2 (fun i hi => ?_) (fun i hi h => ?_) (fun i hi => ?_) (fun i hi => ?_) (fun i hi => ?_)
    · rw [e1] at hi
      rw [ct2]
      rcases (show i = 0 ∨ i = 1 by omega) with rfl | rfl
      · rw [show lsz st 0 = 0 from e1]; exact c3
      · rw [show lsz st 1 = 0 from e2]; exact c4
    · exact absurd h (Nat.lt_irrefl 0)
    · omega
    · omega
    · omega
  · intro k i k' i' v1 v2 ee
    have x1 := cls k i v1
    have x2 := cls k' i' v2
    omega
  · intro k i v hk
    refine hF _ ?_
    have x1 := cls k i v
    omega
  · intro k i v
    have x1 := cls k i v
    have : (zH z).size ≤ a := ha
    have : (zH z).size ≤ n := hn
    show (zH z).size ≤ _
    omega
  · rw [e1] at hi
    rcases (show i = 0 ∨ i = 1 by omega) with rfl | rfl
    · rw [show lsz st 0 = 0 from e1]; exact ⟨Nat.le_refl 0, Nat.zero_le 34⟩
    · rw [show lsz st 1 = 0 from e2]; exact ⟨Nat.le_refl 0, Nat.zero_le 34⟩

