set_option maxRecDepth 100000
theorem Up.tr {z : Zt} {a : Nat} {e e' : va_E} {H H1 H2 : Heap} (h : Up z a e H H1) (g : Up z a e' H1 H2) : Up z a e' H H2 := ⟨g.1, by rw [g.2.1, h.2.1], fun q hq => by rw [g.2.2 q hq, h.2.2 q hq]⟩
theorem New.up {z : Zt} {e e' : va_E} {H H1 H2 : Heap} (h : New z e H H1) (g : Up z H.size e' H1 H2) : New z e' H H2 := ⟨g.1, by rw [g.2.1, h.2.1], fun q hq => by rw [g.2.2 q (by omega), h.2.2 q hq]⟩
section ADDC
variable {z : Zt} {F : Nat → Prop} {ad : Nat → Nat → Nat} {st st' : St} {gh : Gh} {H H1 : Heap} {N b lo e e0 cap cap0 : Nat} {md md0 : Int32}
def adC (ad : Nat → Nat → Nat) (n b lo e e0 : Nat) : Nat → Nat → Nat := fun k i => if k = 4 ∧ i = n then b else if k = 2 ∧ i = n + 2 then lo else if k = 3 ∧ i = n + 2 then e else if k = 3 ∧ i = 0 then e0 else ad k i
def ghC (gh : Gh) (n : Nat) (md md0 : Int32) (cap cap0 : Nat) : Gh := (fun i => if i = 0 then md0 else if i = n + 2 then md else gh.1 i, fun i => if i = 0 then cap0 else if i = n + 2 then cap else gh.2 i)
theorem QW.addC (h : QW z F ad st gh H) (hN : ∀ k i, Vq st gh k i → ad k i < N) (hNA : AA z N)
    (r0 : st' 0 = st 0) (r7 : st' 7 = st 7) (r8 : st' 8 = st 8) (r9 : st' 9 = st 9) (r11 : st' 11 = st 11) (r12 : st' 12 = st 12) (hc : nC st' = nC st + 1) (hp : nP st' = nP st)
    (hrow : ∀ i, i < nC st → st' 1 i = st 1 i ∧ st' 2 i = st 2 i ∧ st' 3 i = st 3 i ∧ st' 6 i = st 6 i ∧ mC st' i = mC st i ∧ ∀ k, k < mC st i → st' 5 (24 * i + k) = st 5 (24 * i + k)) (hI : Inv st')
    (kept : ∀ k i, Vq st gh k i → ¬ (k = 2 ∧ i = 0) → ¬ (k = 3 ∧ i = 0) → H1[ad k i]? = H[ad k i]?)
    (hl0 : c1 z (ad 2 0) (.inr (2, [.int md0, .ref e0, .int (nI (nC st + 1))])) H1) (he0 : c1 z e0 (aQ z cap0 (va_up (qel z ad st 0) (nC st) (some b))) H1) (hcap0 : nC st + 1 ≤ cap0 ∧ cap0 ≤ 34) (he0w : (0 < gh.2 0 ∧ e0 = ad 3 0) ∨ N ≤ e0)
    (hb : c1 z b (.inr (5, [.int (st' 1 (nC st)), .int (st' 2 (nC st)), .int (st' 3 (nC st)), .int (st' 6 (nC st)), .ref lo])) H1) (hbN : N ≤ b)
    (hlo : c1 z lo (.inr (2, [.int md, .ref e, .int (nI (mC st' (nC st)))])) H1) (hloN : N ≤ lo)
    (hel : (cap = 0 ∧ e = zs z 0) ∨ (0 < cap ∧ N ≤ e ∧ c1 z e (aQ z cap (fun k => if k < mC st' (nC st) then some (zi z (cN (st' 5 (24 * nC st + k)) + 128)) else none)) H1)) (hcap : mC st' (nC st) ≤ cap ∧ cap ≤ 34)
    (d1 : b ≠ lo) (d2 : b ≠ e0) (d3 : lo ≠ e0) (d4 : 0 < cap → e ≠ b ∧ e ≠ lo ∧ e ≠ e0) :
    QW z (fun q => F q ∨ N ≤ q) (adC ad (nC st) b lo e e0) st' (ghC gh (nC st) md md0 cap cap0) H1 := by
  have a4 : adC ad (nC st) b lo e e0 4 (nC st) = b := if_pos ⟨rfl, rfl⟩
  have a2 : adC ad (nC st) b lo e e0 2 (nC st + 2) = lo := by unfold adC; rw [if_neg (by omega), if_pos ⟨rfl, rfl⟩]
  have a3 : adC ad (nC st) b lo e e0 3 (nC st + 2) = e := by unfold adC; rw [if_neg (by omega), if_neg (by omega), if_pos ⟨rfl, rfl⟩]
  have a30 : adC ad (nC st) b lo e e0 3 0 = e0 := by unfold adC; rw [if_neg (by omega), if_neg (by omega), if_neg (by omega), if_pos ⟨rfl, rfl⟩]
  have ao : ∀ k i, ¬ (k = 4 ∧ i = nC st) → ¬ (k = 2 ∧ i = nC st + 2) → ¬ (k = 3 ∧ i = nC st + 2) → ¬ (k = 3 ∧ i = 0) → adC ad (nC st) b lo e e0 k i = ad k i := fun k i h1 h2 h3 h4 => by unfold adC; rw [if_neg h1, if_neg h2, if_neg h3, if_neg h4]
  have g0 : (ghC gh (nC st) md md0 cap cap0).2 0 = cap0 := rfl
  have g2 : (ghC gh (nC st) md md0 cap cap0).2 (nC st + 2) = cap := by show (if nC st + 2 = 0 then cap0 else if nC st + 2 = nC st + 2 then cap else gh.2 (nC st + 2)) = cap; rw [if_neg (by omega), if_pos rfl]
  have go : ∀ i, i ≠ 0 → i ≠ nC st + 2 → (ghC gh (nC st) md md0 cap cap0).2 i = gh.2 i := fun i h1 h2 => by show (if i = 0 then cap0 else if i = nC st + 2 then cap else gh.2 i) = gh.2 i; rw [if_neg h1, if_neg h2]
  have m0 : (ghC gh (nC st) md md0 cap cap0).1 0 = md0 := rfl
  have m2 : (ghC gh (nC st) md md0 cap cap0).1 (nC st + 2) = md := by show (if nC st + 2 = 0 then md0 else if nC st + 2 = nC st + 2 then md else gh.1 (nC st + 2)) = md; rw [if_neg (by omega), if_pos rfl]
  have mo : ∀ i, i ≠ 0 → i ≠ nC st + 2 → (ghC gh (nC st) md md0 cap cap0).1 i = gh.1 i := fun i h1 h2 => by show (if i = 0 then md0 else if i = nC st + 2 then md else gh.1 i) = gh.1 i; rw [if_neg h1, if_neg h2]
  generalize hadE : adC ad (nC st) b lo e e0 = ad' at a4 a2 a3 a30 ao ⊢
  generalize hghE : ghC gh (nC st) md md0 cap cap0 = gh' at g0 g2 go m0 m2 mo ⊢
  have keep : ∀ k i, Vq st gh k i → ¬ (k = 2 ∧ i = 0) → ¬ (k = 3 ∧ i = 0) → ad' k i = ad k i → ctQ z ad' st' gh' k i = ctQ z ad st gh k i → c1 z (ad' k i) (ctQ z ad' st' gh' k i) H1 := fun k i hv h1 h2 ea ec => by
    rw [ea, ec]
    exact (h.1 k i hv).kept (kept k i hv h1 h2)
  have lso : ∀ i, i < nC st + 2 → i ≠ 0 → lsz st' i = lsz st i := fun i hi h0 => by
    match i, hi, h0 with
    | 1, _, _ => exact hp
    | i + 2, hi, _ => exact (hrow i (by omega)).2.2.2.2.1
  have qeo : ∀ i, i < nC st + 2 → i ≠ 0 → qel z ad' st' i = qel z ad st i := fun i hi h0 => by
    match i, hi, h0 with
    | 1, _, _ =>
      funext k
      show (if k < nP st' then some (ad' 5 k) else none) = (if k < nP st then some (ad 5 k) else none)
      rw [hp, ao 5 k (by omega) (by omega) (by omega) (by omega)]
    | i + 2, hi, _ =>
      funext k
      have hr := (hrow i (by omega)).2.2.2.2
      show (if k < mC st' i then some (zi z (cN (st' 5 (24 * i + k)) + 128)) else none) = (if k < mC st i then some (zi z (cN (st 5 (24 * i + k)) + 128)) else none)
      rw [hr.1]
      by_cases hk : k < mC st i
      · rw [if_pos hk, if_pos hk, hr.2 k hk]
      · rw [if_neg hk, if_neg hk]
  have eao : ∀ i, i < nC st + 2 → i ≠ 0 → eA z ad' gh' i = eA z ad gh i := fun i hi h0 => by
    unfold eA
    rw [go i h0 (by omega), ao 3 i (by omega) (by omega) (by omega) (by omega)]
  have cls : ∀ k i, Vq st' gh' k i → (Vq st gh k i ∧ ad' k i = ad k i) ∨ (k = 4 ∧ i = nC st ∧ ad' k i = b) ∨ (k = 2 ∧ i = nC st + 2 ∧ ad' k i = lo) ∨ (k = 3 ∧ i = nC st + 2 ∧ ad' k i = e ∧ 0 < cap) ∨ (k = 3 ∧ i = 0 ∧ ad' k i = e0 ∧ N ≤ e0) := by
    refine Vq.cs (P := fun k i => (Vq st gh k i ∧ ad' k i = ad k i) ∨ (k = 4 ∧ i = nC st ∧ ad' k i = b) ∨ (k = 2 ∧ i = nC st + 2 ∧ ad' k i = lo) ∨ (k = 3 ∧ i = nC st + 2 ∧ ad' k i = e ∧ 0 < cap) ∨ (k = 3 ∧ i = 0 ∧ ad' k i = e0 ∧ N ≤ e0)) ?_ ?_ ?_ ?_ ?_ ?_ ?_
    · exact Or.inl ⟨rfl, ao 0 0 (by omega) (by omega) (by omega) (by omega)⟩
    · exact Or.inl ⟨rfl, ao 1 0 (by omega) (by omega) (by omega) (by omega)⟩
    · intro i hi
      rw [hc] at hi
      by_cases g : i = nC st + 2
      · rw [g]; exact Or.inr (Or.inr (Or.inl ⟨rfl, rfl, a2⟩))
      · exact Or.inl ⟨show i < nC st + 2 by omega, ao 2 i (by omega) (by omega) (by omega) (by omega)⟩
    · intro i hi hpos
      rw [hc] at hi
      by_cases g : i = nC st + 2
      · rw [g] at hpos ⊢
        rw [g2] at hpos
        exact Or.inr (Or.inr (Or.inr (Or.inl ⟨rfl, rfl, a3, hpos⟩)))
      · by_cases g9 : i = 0
        · rw [g9]
          rcases he0w with ⟨w1, w2⟩ | w
          · exact Or.inl ⟨⟨by omega, w1⟩, by rw [a30]; exact w2⟩
          · exact Or.inr (Or.inr (Or.inr (Or.inr ⟨rfl, rfl, a30, w⟩)))
        · rw [go i g9 g] at hpos
          exact Or.inl ⟨⟨by omega, hpos⟩, ao 3 i (by omega) (by omega) (by omega) (by omega)⟩
    · intro i hi
      rw [hc] at hi
      by_cases g : i = nC st
      · rw [g]; exact Or.inr (Or.inl ⟨rfl, rfl, a4⟩)
      · exact Or.inl ⟨show i < nC st by omega, ao 4 i (by omega) (by omega) (by omega) (by omega)⟩
    · intro i hi
      rw [hp] at hi
      exact Or.inl ⟨hi, ao 5 i (by omega) (by omega) (by omega) (by omega)⟩
    · intro i hi
      rw [hp] at hi
      exact Or.inl ⟨hi, ao 6 i (by omega) (by omega) (by omega) (by omega)⟩
  refine ⟨?_, ?_, ?_, ?_, hI, ?_⟩
  · refine Vq.cs (P := fun k i => c1 z (ad' k i) (ctQ z ad' st' gh' k i) H1) ?_ ?_ ?_ ?_ ?_ ?_ ?_
    · refine keep 0 0 rfl (by omega) (by omega) (ao 0 0 (by omega) (by omega) (by omega) (by omega)) ?_
      rw [ct0, ct0, r9, ao 1 0 (by omega) (by omega) (by omega) (by omega), ao 2 0 (by omega) (by omega) (by omega) (by omega), ao 2 1 (by omega) (by omega) (by omega) (by omega)]
    · refine keep 1 0 rfl (by omega) (by omega) (ao 1 0 (by omega) (by omega) (by omega) (by omega)) ?_
      rw [ct1, ct1, r0]
    · intro i hi
      rw [hc] at hi
      by_cases g : i = nC st + 2
      · rw [g, a2, ct2, m2]
        have e9 : eA z ad' gh' (nC st + 2) = e := by
          unfold eA
          rw [g2, a3]
          rcases hel with ⟨x1, x2⟩ | ⟨x1, -⟩
          · rw [if_pos x1]; exact x2.symm
          · rw [if_neg (by omega)]
        rw [e9]
        exact hlo
      · by_cases g9 : i = 0
        · rw [g9, ao 2 0 (by omega) (by omega) (by omega) (by omega), ct2, m0]
          have e9 : eA z ad' gh' 0 = e0 := by
            unfold eA
            rw [g0, if_neg (by omega), a30]
          rw [e9, show lsz st' 0 = nC st + 1 from hc]
          exact hl0
        · refine keep 2 i (show i < nC st + 2 by omega) (by omega) (by omega) (ao 2 i (by omega) (by omega) (by omega) (by omega)) ?_
          rw [ct2, ct2, mo i g9 g, eao i (by omega) g9, lso i (by omega) g9]
    · intro i hi hpos
      rw [hc] at hi
      by_cases g : i = nC st + 2
      · rw [g] at hpos ⊢
        rw [g2] at hpos
        rw [a3, ct3, g2]
        rcases hel with ⟨x1, -⟩ | ⟨-, -, x2⟩
        · omega
        · exact x2
      · by_cases g9 : i = 0
        · rw [g9, a30, ct3, g0]
          have e9 : qel z ad' st' 0 = va_up (qel z ad st 0) (nC st) (some b) := by
            funext k
            show (if k < nC st' then some (ad' 4 k) else none) = (if k = nC st then some b else if k < nC st then some (ad 4 k) else none)
            rw [hc]
            by_cases x1 : k = nC st
            · rw [if_pos x1, if_pos (by omega), x1, a4]
            · rw [if_neg x1]
              by_cases x2 : k < nC st
              · rw [if_pos x2, if_pos (by omega), ao 4 k (by omega) (by omega) (by omega) (by omega)]
              · rw [if_neg x2, if_neg (by omega)]
          rw [e9]
          exact he0
        · rw [go i g9 g] at hpos
          refine keep 3 i ⟨by omega, hpos⟩ (by omega) (by omega) (ao 3 i (by omega) (by omega) (by omega) (by omega)) ?_
          rw [ct3, ct3, go i g9 g, qeo i (by omega) g9]
    · intro i hi
      rw [hc] at hi
      by_cases g : i = nC st
      · rw [g, a4, ct4, a2]
        exact hb
      · have hr := hrow i (by omega)
        refine keep 4 i (show i < nC st by omega) (by omega) (by omega) (ao 4 i (by omega) (by omega) (by omega) (by omega)) ?_
        rw [ct4, ct4, hr.1, hr.2.1, hr.2.2.1, hr.2.2.2.1, ao 2 (i + 2) (by omega) (by omega) (by omega) (by omega)]
    · intro i hi
      rw [hp] at hi
      refine keep 5 i hi (by omega) (by omega) (ao 5 i (by omega) (by omega) (by omega) (by omega)) ?_
      rw [ct5, ct5, r7, r8, ao 6 i (by omega) (by omega) (by omega) (by omega)]
    · intro i hi
      rw [hp] at hi
      refine keep 6 i hi (by omega) (by omega) (ao 6 i (by omega) (by omega) (by omega) (by omega)) ?_
      rw [ct6, ct6, r11, r12]
  · intro k i k' i' v1 v2 ee
    rcases cls k i v1 with ⟨o1, o2⟩ | ⟨n1, n2, n3⟩ | ⟨n1, n2, n3⟩ | ⟨n1, n2, n3, n4⟩ | ⟨n1, n2, n3, n4⟩ <;> rcases cls k' i' v2 with ⟨p1, p2⟩ | ⟨t1, t2, t3⟩ | ⟨t1, t2, t3⟩ | ⟨t1, t2, t3, t4⟩ | ⟨t1, t2, t3, t4⟩
    · exact h.2.1 k i k' i' o1 p1 (by rw [← o2, ← p2]; exact ee)
    · have := hN k i o1; omega
    · have := hN k i o1; omega
    · have := hN k i o1; rcases hel with ⟨x1, -⟩ | ⟨-, x2, -⟩ <;> omega
    · have := hN k i o1; omega
    · have := hN k' i' p1; omega
    · exact ⟨by omega, by omega⟩
    · omega
    · have := d4 t4; omega
    · omega
    · have := hN k' i' p1; omega
    · omega
    · exact ⟨by omega, by omega⟩
    · have := d4 t4; omega
    · omega
    · have := hN k' i' p1; rcases hel with ⟨x1, -⟩ | ⟨-, x2, -⟩ <;> omega
    · have := d4 n4; omega
    · have := d4 n4; omega
    · exact ⟨by omega, by omega⟩
    · have := d4 n4; omega
    · have := hN k' i' p1; omega
    · omega
    · omega
    · have := d4 t4; omega
    · exact ⟨by omega, by omega⟩
  · intro k i v hk
    rcases cls k i v with ⟨o1, o2⟩ | ⟨n1, n2, n3⟩ | ⟨n1, n2, n3⟩ | ⟨n1, n2, n3, n4⟩ | ⟨n1, n2, n3, n4⟩
    · rw [o2]; exact Or.inl (h.2.2.1 k i o1 hk)
    · rw [n3]; exact Or.inr hbN
    · rw [n3]; exact Or.inr hloN
    · rw [n3]; rcases hel with ⟨x1, -⟩ | ⟨-, x2, -⟩
      · omega
      · exact Or.inr x2
    · rw [n3]; exact Or.inr n4
  · intro k i v
    have up : ∀ q, N ≤ q → AA z q := fun q hq => Nat.le_trans hNA hq
    rcases cls k i v with ⟨o1, o2⟩ | ⟨n1, n2, n3⟩ | ⟨n1, n2, n3⟩ | ⟨n1, n2, n3, n4⟩ | ⟨n1, n2, n3, n4⟩
    · rw [o2]; exact h.2.2.2.1 k i o1
    · rw [n3]; exact up _ hbN
    · rw [n3]; exact up _ hloN
    · rw [n3]; rcases hel with ⟨x1, -⟩ | ⟨-, x2, -⟩
      · omega
      · exact up _ x2
    · rw [n3]; exact up _ n4
  · intro i hi
    rw [hc] at hi
    by_cases g : i = nC st + 2
    · rw [g, g2]
      exact hcap
    · by_cases g9 : i = 0
      · rw [g9, g0, show lsz st' 0 = nC st + 1 from hc]
        exact hcap0
      · rw [go i g9 g, lso i (by omega) g9]
        exact h.cap (by omega)
end ADDC
theorem c1_cgI {z : Zt} {a n : Nat} {f g : Nat → Int32} {H : Heap} (h : c1 z a (aI z n f) H) (e : ∀ k, k < n → f k = g k) : c1 z a (aI z n g) H := by
  have h1 : H[a]? = some (vp_cell (zc z 0) (n, .inl f)) := h
  have h2 : vp_cell (zc z 0) (n, .inl f) = vp_cell (zc z 0) (n, .inl g) := by
    rw [vp_cell_i, vp_cell_i]
    unfold arrV
    congr 2
    funext j
    show Value.int (f j.val) = Value.int (g j.val)
    rw [e j.val j.isLt]
  rw [h2] at h1
  exact h1
section ADDP
variable {z : Zt} {F : Nat → Prop} {ad : Nat → Nat → Nat} {st st' : St} {gh : Gh} {H H1 : Heap} {N b ra e0 cap0 : Nat} {md0 : Int32}
def adP (ad : Nat → Nat → Nat) (n b ra e0 : Nat) : Nat → Nat → Nat := fun k i => if k = 5 ∧ i = n then b else if k = 6 ∧ i = n then ra else if k = 3 ∧ i = 1 then e0 else ad k i
def ghP (gh : Gh) (md0 : Int32) (cap0 : Nat) : Gh := (fun i => if i = 1 then md0 else gh.1 i, fun i => if i = 1 then cap0 else gh.2 i)
theorem QW.addP (h : QW z F ad st gh H) (hN : ∀ k i, Vq st gh k i → k < 6 → ad k i < N) (hNA : AA z N)
    (r0 : st' 0 = st 0) (r1 : st' 1 = st 1) (r2 : st' 2 = st 2) (r3 : st' 3 = st 3) (r4 : st' 4 = st 4) (r5 : st' 5 = st 5) (r6 : st' 6 = st 6) (r9 : st' 9 = st 9) (hc : nC st' = nC st) (hp : nP st' = nP st + 1)
    (hrow : ∀ i, i < nP st → st' 7 i = st 7 i ∧ st' 8 i = st 8 i ∧ st' 11 i = st 11 i ∧ ∀ k, k < cN (st 11 i) → st' 12 (12 * i + k) = st 12 (12 * i + k)) (hI : Inv st')
    (kept : ∀ k i, Vq st gh k i → ¬ (k = 2 ∧ i = 1) → ¬ (k = 3 ∧ i = 1) → H1[ad k i]? = H[ad k i]?)
    (hl0 : c1 z (ad 2 1) (.inr (2, [.int md0, .ref e0, .int (nI (nP st + 1))])) H1) (he0 : c1 z e0 (aQ z cap0 (va_up (qel z ad st 1) (nP st) (some b))) H1) (hcap0 : nP st + 1 ≤ cap0 ∧ cap0 ≤ 34) (he0w : (0 < gh.2 1 ∧ e0 = ad 3 1) ∨ N ≤ e0)
    (hb : c1 z b (.inr (6, [.int (st' 7 (nP st)), .ref ra, .int (st' 8 (nP st))])) H1) (hbN : N ≤ b)
    (hra : c1 z ra (aI z (cN (st' 11 (nP st))) (fun k => st' 12 (12 * nP st + k))) H1) (hraA : AA z ra) (hrd : ∀ k i, Vq st gh k i → ra ≠ ad k i) (hr6 : ∀ i, i < nP st → ad 6 i < N ∨ (ad 6 i ≠ b ∧ ad 6 i ≠ e0))
    (d1 : b ≠ ra) (d2 : b ≠ e0) (d3 : ra ≠ e0) :
    QW z (fun q => F q ∨ N ≤ q) (adP ad (nP st) b ra e0) st' (ghP gh md0 cap0) H1 := by
  have a5 : adP ad (nP st) b ra e0 5 (nP st) = b := if_pos ⟨rfl, rfl⟩
  have a6 : adP ad (nP st) b ra e0 6 (nP st) = ra := by unfold adP; rw [if_neg (by omega), if_pos ⟨rfl, rfl⟩]
  have a30 : adP ad (nP st) b ra e0 3 1 = e0 := by unfold adP; rw [if_neg (by omega), if_neg (by omega), if_pos ⟨rfl, rfl⟩]
  have ao : ∀ k i, ¬ (k = 5 ∧ i = nP st) → ¬ (k = 6 ∧ i = nP st) → ¬ (k = 3 ∧ i = 1) → adP ad (nP st) b ra e0 k i = ad k i := fun k i h1 h2 h3 => by unfold adP; rw [if_neg h1, if_neg h2, if_neg h3]
  have g0 : (ghP gh md0 cap0).2 1 = cap0 := rfl
  have go : ∀ i, i ≠ 1 → (ghP gh md0 cap0).2 i = gh.2 i := fun i h1 => by show (if i = 1 then cap0 else gh.2 i) = gh.2 i; rw [if_neg h1]
  have m0 : (ghP gh md0 cap0).1 1 = md0 := rfl
  have mo : ∀ i, i ≠ 1 → (ghP gh md0 cap0).1 i = gh.1 i := fun i h1 => by show (if i = 1 then md0 else gh.1 i) = gh.1 i; rw [if_neg h1]
  generalize hadE : adP ad (nP st) b ra e0 = ad' at a5 a6 a30 ao ⊢
  generalize hghE : ghP gh md0 cap0 = gh' at g0 go m0 mo ⊢
  have keep : ∀ k i, Vq st gh k i → ¬ (k = 2 ∧ i = 1) → ¬ (k = 3 ∧ i = 1) → ad' k i = ad k i → ctQ z ad' st' gh' k i = ctQ z ad st gh k i → c1 z (ad' k i) (ctQ z ad' st' gh' k i) H1 := fun k i hv h1 h2 ea ec => by
    rw [ea, ec]
    exact (h.1 k i hv).kept (kept k i hv h1 h2)
  have mCe : ∀ i, mC st' i = mC st i := fun i => by unfold mC; rw [r4]
  have lso : ∀ i, i ≠ 1 → lsz st' i = lsz st i := fun i h0 => by
    match i, h0 with
    | 0, _ => exact hc
    | i + 2, _ => exact mCe i
  have qeo : ∀ i, i ≠ 1 → qel z ad' st' i = qel z ad st i := fun i h0 => by
    match i, h0 with
    | 0, _ =>
      funext k
      show (if k < nC st' then some (ad' 4 k) else none) = (if k < nC st then some (ad 4 k) else none)
      rw [hc, ao 4 k (by omega) (by omega) (by omega)]
    | i + 2, _ =>
      funext k
      show (if k < mC st' i then some (zi z (cN (st' 5 (24 * i + k)) + 128)) else none) = (if k < mC st i then some (zi z (cN (st 5 (24 * i + k)) + 128)) else none)
      rw [mCe, r5]
  have eao : ∀ i, i ≠ 1 → eA z ad' gh' i = eA z ad gh i := fun i h0 => by
    unfold eA
    rw [go i h0, ao 3 i (by omega) (by omega) (by omega)]
  have cls : ∀ k i, Vq st' gh' k i → (Vq st gh k i ∧ ad' k i = ad k i) ∨ (k = 5 ∧ i = nP st ∧ ad' k i = b) ∨ (k = 6 ∧ i = nP st ∧ ad' k i = ra) ∨ (k = 3 ∧ i = 1 ∧ ad' k i = e0 ∧ N ≤ e0) := by
    refine Vq.cs (P := fun k i => (Vq st gh k i ∧ ad' k i = ad k i) ∨ (k = 5 ∧ i = nP st ∧ ad' k i = b) ∨ (k = 6 ∧ i = nP st ∧ ad' k i = ra) ∨ (k = 3 ∧ i = 1 ∧ ad' k i = e0 ∧ N ≤ e0)) ?_ ?_ ?_ ?_ ?_ ?_ ?_
    · exact Or.inl ⟨rfl, ao 0 0 (by omega) (by omega) (by omega)⟩
    · exact Or.inl ⟨rfl, ao 1 0 (by omega) (by omega) (by omega)⟩
    · intro i hi
      rw [hc] at hi
      exact Or.inl ⟨hi, ao 2 i (by omega) (by omega) (by omega)⟩
    · intro i hi hpos
      rw [hc] at hi
      by_cases g9 : i = 1
      · rw [g9]
        rcases he0w with ⟨w1, w2⟩ | w
        · exact Or.inl ⟨⟨by omega, w1⟩, by rw [a30]; exact w2⟩
        · exact Or.inr (Or.inr (Or.inr ⟨rfl, rfl, a30, w⟩))
      · rw [go i g9] at hpos
        exact Or.inl ⟨⟨hi, hpos⟩, ao 3 i (by omega) (by omega) (by omega)⟩
    · intro i hi
      rw [hc] at hi
      exact Or.inl ⟨hi, ao 4 i (by omega) (by omega) (by omega)⟩
    · intro i hi
      rw [hp] at hi
      by_cases g : i = nP st
      · rw [g]; exact Or.inr (Or.inl ⟨rfl, rfl, a5⟩)
      · exact Or.inl ⟨show i < nP st by omega, ao 5 i (by omega) (by omega) (by omega)⟩
    · intro i hi
      rw [hp] at hi
      by_cases g : i = nP st
      · rw [g]; exact Or.inr (Or.inr (Or.inl ⟨rfl, rfl, a6⟩))
      · exact Or.inl ⟨show i < nP st by omega, ao 6 i (by omega) (by omega) (by omega)⟩
  have old : ∀ k i, Vq st gh k i → ad k i ≠ b ∧ (N ≤ e0 → ad k i ≠ e0) := by
    intro k i hv
    by_cases hk : k < 6
    · have := hN k i hv hk
      exact ⟨by omega, fun _ => by omega⟩
    · revert hk
      revert hv
      refine Vq.cs (P := fun k i => ¬ k < 6 → ad k i ≠ b ∧ (N ≤ e0 → ad k i ≠ e0)) (fun g => absurd (by omega) g) (fun g => absurd (by omega) g) (fun i _ g => absurd (by omega) g) (fun i _ _ g => absurd (by omega) g) (fun i _ g => absurd (by omega) g) (fun i _ g => absurd (by omega) g) (fun i hi g => ?_) k i
      rcases hr6 i hi with w | w
      · exact ⟨by omega, fun _ => by omega⟩
      · exact ⟨w.1, fun _ => w.2⟩
  refine ⟨?_, ?_, ?_, ?_, hI, ?_⟩
  · refine Vq.cs (P := fun k i => c1 z (ad' k i) (ctQ z ad' st' gh' k i) H1) ?_ ?_ ?_ ?_ ?_ ?_ ?_
    · refine keep 0 0 rfl (by omega) (by omega) (ao 0 0 (by omega) (by omega) (by omega)) ?_
      rw [ct0, ct0, r9, ao 1 0 (by omega) (by omega) (by omega), ao 2 0 (by omega) (by omega) (by omega), ao 2 1 (by omega) (by omega) (by omega)]
    · refine keep 1 0 rfl (by omega) (by omega) (ao 1 0 (by omega) (by omega) (by omega)) ?_
      rw [ct1, ct1, r0]
    · intro i hi
      rw [hc] at hi
      by_cases g9 : i = 1
      · rw [g9, ao 2 1 (by omega) (by omega) (by omega), ct2, m0]
        have e9 : eA z ad' gh' 1 = e0 := by
          unfold eA
          rw [g0, if_neg (by omega), a30]
        rw [e9, show lsz st' 1 = nP st + 1 from hp]
        exact hl0
      · refine keep 2 i hi (by omega) (by omega) (ao 2 i (by omega) (by omega) (by omega)) ?_
        rw [ct2, ct2, mo i g9, eao i g9, lso i g9]
    · intro i hi hpos
      rw [hc] at hi
      by_cases g9 : i = 1
      · rw [g9, a30, ct3, g0]
        have e9 : qel z ad' st' 1 = va_up (qel z ad st 1) (nP st) (some b) := by
          funext k
          show (if k < nP st' then some (ad' 5 k) else none) = (if k = nP st then some b else if k < nP st then some (ad 5 k) else none)
          rw [hp]
          by_cases x1 : k = nP st
          · rw [if_pos x1, if_pos (by omega), x1, a5]
          · rw [if_neg x1]
            by_cases x2 : k < nP st
            · rw [if_pos x2, if_pos (by omega), ao 5 k (by omega) (by omega) (by omega)]
            · rw [if_neg x2, if_neg (by omega)]
        rw [e9]
        exact he0
      · rw [go i g9] at hpos
        refine keep 3 i ⟨hi, hpos⟩ (by omega) (by omega) (ao 3 i (by omega) (by omega) (by omega)) ?_
        rw [ct3, ct3, go i g9, qeo i g9]
    · intro i hi
      rw [hc] at hi
      refine keep 4 i hi (by omega) (by omega) (ao 4 i (by omega) (by omega) (by omega)) ?_
      rw [ct4, ct4, r1, r2, r3, r6, ao 2 (i + 2) (by omega) (by omega) (by omega)]
    · intro i hi
      rw [hp] at hi
      by_cases g : i = nP st
      · rw [g, a5, ct5, a6]
        exact hb
      · have hr := hrow i (by omega)
        refine keep 5 i (show i < nP st by omega) (by omega) (by omega) (ao 5 i (by omega) (by omega) (by omega)) ?_
        rw [ct5, ct5, hr.1, hr.2.1, ao 6 i (by omega) (by omega) (by omega)]
    · intro i hi
      rw [hp] at hi
      by_cases g : i = nP st
      · rw [g, a6, ct6]
        exact hra
      · have hr := hrow i (by omega)
        rw [ao 6 i (by omega) (by omega) (by omega), ct6, hr.2.2.1]
        exact c1_cgI ((h.r (i := i) (by omega)).kept (kept 6 i (show i < nP st by omega) (by omega) (by omega))) (fun k hk => (hr.2.2.2 k hk).symm)
  · intro k i k' i' v1 v2 ee
    rcases cls k i v1 with ⟨o1, o2⟩ | ⟨n1, n2, n3⟩ | ⟨n1, n2, n3⟩ | ⟨n1, n2, n3, n4⟩ <;> rcases cls k' i' v2 with ⟨p1, p2⟩ | ⟨t1, t2, t3⟩ | ⟨t1, t2, t3⟩ | ⟨t1, t2, t3, t4⟩
    · exact h.2.1 k i k' i' o1 p1 (by rw [← o2, ← p2]; exact ee)
    · exact absurd (o2.symm.trans (ee.trans t3)) (old k i o1).1
    · exact absurd (o2.symm.trans (ee.trans t3)).symm (hrd k i o1)
    · exact absurd (o2.symm.trans (ee.trans t3)) ((old k i o1).2 t4)
    · exact absurd (p2.symm.trans (ee.symm.trans n3)) (old k' i' p1).1
    · exact ⟨by omega, by omega⟩
    · omega
    · omega
    · exact absurd (p2.symm.trans (ee.symm.trans n3)).symm (hrd k' i' p1)
    · omega
    · exact ⟨by omega, by omega⟩
    · omega
    · exact absurd (p2.symm.trans (ee.symm.trans n3)) ((old k' i' p1).2 n4)
    · omega
    · omega
    · exact ⟨by omega, by omega⟩
  · intro k i v hk
    rcases cls k i v with ⟨o1, o2⟩ | ⟨n1, n2, n3⟩ | ⟨n1, n2, n3⟩ | ⟨n1, n2, n3, n4⟩
    · rw [o2]; exact Or.inl (h.2.2.1 k i o1 hk)
    · rw [n3]; exact Or.inr hbN
    · omega
    · rw [n3]; exact Or.inr n4
  · intro k i v
    have up : ∀ q, N ≤ q → AA z q := fun q hq => Nat.le_trans hNA hq
    rcases cls k i v with ⟨o1, o2⟩ | ⟨n1, n2, n3⟩ | ⟨n1, n2, n3⟩ | ⟨n1, n2, n3, n4⟩
    · rw [o2]; exact h.2.2.2.1 k i o1
    · rw [n3]; exact up _ hbN
    · rw [n3]; exact hraA
    · rw [n3]; exact up _ n4
  · intro i hi
    rw [hc] at hi
    by_cases g9 : i = 1
    · rw [g9, g0, show lsz st' 1 = nP st + 1 from hp]
      exact hcap0
    · rw [go i g9, lso i g9]
      exact h.cap hi
end ADDP
