set_option maxRecDepth 100000
section LSO
variable {z : Zt} {F : Nat → Prop} {ad : Nat → Nat → Nat} {st st' : St} {gh : Gh} {H H1 : Heap} {N c e cap : Nat} {md : Int32}
def adO (ad : Nat → Nat → Nat) (c e : Nat) : Nat → Nat → Nat := fun k i => if k = 3 ∧ i = c + 2 then e else ad k i
def ghO (gh : Gh) (c : Nat) (md : Int32) (cap : Nat) : Gh := (fun i => if i = c + 2 then md else gh.1 i, fun i => if i = c + 2 then cap else gh.2 i)
theorem QW.lsO (h : QW z F ad st gh H) (hc : c < nC st) (hN : ∀ k i, Vq st gh k i → ad k i < N) (hNA : AA z N)
    (r0 : st' 0 = st 0) (r1 : st' 1 = st 1) (r2 : st' 2 = st 2) (r3 : st' 3 = st 3) (r6 : st' 6 = st 6) (r7 : st' 7 = st 7) (r8 : st' 8 = st 8) (r9 : st' 9 = st 9) (r10 : st' 10 = st 10) (r11 : st' 11 = st 11) (r12 : st' 12 = st 12)
    (hrow : ∀ i, i < nC st → i ≠ c → mC st' i = mC st i ∧ ∀ k, k < mC st i → st' 5 (24 * i + k) = st 5 (24 * i + k)) (hI : Inv st')
    (kept : ∀ k i, Vq st gh k i → ¬ (k = 2 ∧ i = c + 2) → ¬ (k = 3 ∧ i = c + 2) → H1[ad k i]? = H[ad k i]?)
    (hl : c1 z (ad 2 (c + 2)) (.inr (2, [.int md, .ref e, .int (nI (mC st' c))])) H1)
    (hel : (cap = 0 ∧ e = zs z 0) ∨ (0 < cap ∧ ((0 < gh.2 (c + 2) ∧ e = ad 3 (c + 2)) ∨ N ≤ e) ∧ c1 z e (aQ z cap (fun k => if k < mC st' c then some (zi z (cN (st' 5 (24 * c + k)) + 128)) else none)) H1))
    (hcap : mC st' c ≤ cap ∧ cap ≤ 34) :
    QW z (fun q => F q ∨ N ≤ q) (adO ad c e) st' (ghO gh c md cap) H1 := by
  have a3 : adO ad c e 3 (c + 2) = e := if_pos ⟨rfl, rfl⟩
  have ao : ∀ k i, ¬ (k = 3 ∧ i = c + 2) → adO ad c e k i = ad k i := fun k i h1 => if_neg h1
  have g0 : (ghO gh c md cap).2 (c + 2) = cap := if_pos rfl
  have go : ∀ i, i ≠ c + 2 → (ghO gh c md cap).2 i = gh.2 i := fun i h1 => if_neg h1
  have m0 : (ghO gh c md cap).1 (c + 2) = md := if_pos rfl
  have mo : ∀ i, i ≠ c + 2 → (ghO gh c md cap).1 i = gh.1 i := fun i h1 => if_neg h1
  generalize hadE : adO ad c e = ad' at a3 ao ⊢
  generalize hghE : ghO gh c md cap = gh' at g0 go m0 mo ⊢
  have eC : nC st' = nC st := by unfold nC; rw [r10]
  have eP : nP st' = nP st := by unfold nP; rw [r10]
  have keep : ∀ k i, Vq st gh k i → ¬ (k = 2 ∧ i = c + 2) → ¬ (k = 3 ∧ i = c + 2) → ctQ z ad' st' gh' k i = ctQ z ad st gh k i → c1 z (ad' k i) (ctQ z ad' st' gh' k i) H1 := fun k i hv h1 h2 ec => by
    rw [ao k i h2, ec]
    exact (h.1 k i hv).kept (kept k i hv h1 h2)
  have lso : ∀ i, i < nC st + 2 → i ≠ c + 2 → lsz st' i = lsz st i := fun i hi h0 => by
    match i, hi, h0 with
    | 0, _, _ => exact eC
    | 1, _, _ => exact eP
    | i + 2, hi, h0 => exact (hrow i (by omega) (by omega)).1
  have qeo : ∀ i, i < nC st + 2 → i ≠ c + 2 → qel z ad' st' i = qel z ad st i := fun i hi h0 => by
    match i, hi, h0 with
    | 0, _, _ =>
      funext k
      show (if k < nC st' then some (ad' 4 k) else none) = (if k < nC st then some (ad 4 k) else none)
      rw [eC, ao 4 k (by omega)]
    | 1, _, _ =>
      funext k
      show (if k < nP st' then some (ad' 5 k) else none) = (if k < nP st then some (ad 5 k) else none)
      rw [eP, ao 5 k (by omega)]
    | i + 2, hi, h0 =>
      have hr := hrow i (by omega) (by omega)
      funext k
      show (if k < mC st' i then some (zi z (cN (st' 5 (24 * i + k)) + 128)) else none) = (if k < mC st i then some (zi z (cN (st 5 (24 * i + k)) + 128)) else none)
      rw [hr.1]
      by_cases hk : k < mC st i
      · rw [if_pos hk, if_pos hk, hr.2 k hk]
      · rw [if_neg hk, if_neg hk]
  have eao : ∀ i, i ≠ c + 2 → eA z ad' gh' i = eA z ad gh i := fun i h0 => by
    unfold eA
    rw [go i h0, ao 3 i (by omega)]
  have eac : eA z ad' gh' (c + 2) = e := by
    unfold eA
    rw [g0, a3]
    rcases hel with ⟨w1, w2⟩ | ⟨w1, -⟩
    · rw [if_pos w1, w2]
    · rw [if_neg (by omega)]
  have cls : ∀ k i, Vq st' gh' k i → (Vq st gh k i ∧ ad' k i = ad k i) ∨ (k = 3 ∧ i = c + 2 ∧ ad' k i = e ∧ N ≤ e) := by
    refine Vq.cs (P := fun k i => (Vq st gh k i ∧ ad' k i = ad k i) ∨ (k = 3 ∧ i = c + 2 ∧ ad' k i = e ∧ N ≤ e)) ?_ ?_ ?_ ?_ ?_ ?_ ?_
    · exact Or.inl ⟨rfl, ao 0 0 (by omega)⟩
    · exact Or.inl ⟨rfl, ao 1 0 (by omega)⟩
    · intro i hi
      rw [eC] at hi
      exact Or.inl ⟨hi, ao 2 i (by omega)⟩
    · intro i hi hpos
      rw [eC] at hi
      by_cases g9 : i = c + 2
      · subst g9
        rw [g0] at hpos
        rcases hel with ⟨w1, w2⟩ | ⟨-, ⟨w1, w2⟩ | w, -⟩
        · omega
        · exact Or.inl ⟨⟨hi, w1⟩, by rw [a3]; exact w2⟩
        · exact Or.inr ⟨rfl, rfl, a3, w⟩
      · rw [go i g9] at hpos
        exact Or.inl ⟨⟨hi, hpos⟩, ao 3 i (by omega)⟩
    · intro i hi
      rw [eC] at hi
      exact Or.inl ⟨hi, ao 4 i (by omega)⟩
    · intro i hi
      rw [eP] at hi
      exact Or.inl ⟨hi, ao 5 i (by omega)⟩
    · intro i hi
      rw [eP] at hi
      exact Or.inl ⟨hi, ao 6 i (by omega)⟩
  refine ⟨?_, ?_, ?_, ?_, hI, ?_⟩
  · refine Vq.cs (P := fun k i => c1 z (ad' k i) (ctQ z ad' st' gh' k i) H1) ?_ ?_ ?_ ?_ ?_ ?_ ?_
    · refine keep 0 0 rfl (by omega) (by omega) ?_
      rw [ct0, ct0, r9, ao 1 0 (by omega), ao 2 0 (by omega), ao 2 1 (by omega)]
    · refine keep 1 0 rfl (by omega) (by omega) ?_
      rw [ct1, ct1, r0]
    · intro i hi
      rw [eC] at hi
      by_cases g9 : i = c + 2
      · rw [g9, ao 2 (c + 2) (by omega), ct2, m0, eac, show lsz st' (c + 2) = mC st' c from rfl]
        exact hl
      · refine keep 2 i hi (by omega) (by omega) ?_
        rw [ct2, ct2, mo i g9, eao i g9, lso i hi g9]
    · intro i hi hpos
      rw [eC] at hi
      by_cases g9 : i = c + 2
      · rw [g9] at hpos ⊢
        rw [g0] at hpos
        rw [a3, ct3, g0]
        rcases hel with ⟨w1, w2⟩ | ⟨-, -, w⟩
        · omega
        · exact w
      · rw [go i g9] at hpos
        refine keep 3 i ⟨hi, hpos⟩ (by omega) (by omega) ?_
        rw [ct3, ct3, go i g9, qeo i hi g9]
    · intro i hi
      rw [eC] at hi
      refine keep 4 i hi (by omega) (by omega) ?_
      rw [ct4, ct4, r1, r2, r3, r6, ao 2 (i + 2) (by omega)]
    · intro i hi
      rw [eP] at hi
      refine keep 5 i hi (by omega) (by omega) ?_
      rw [ct5, ct5, r7, r8, ao 6 i (by omega)]
    · intro i hi
      rw [eP] at hi
      refine keep 6 i hi (by omega) (by omega) ?_
      rw [ct6, ct6, r11, r12]
  · intro k i k' i' v1 v2 ee
    rcases cls k i v1 with ⟨o1, o2⟩ | ⟨n1, n2, n3, n4⟩ <;> rcases cls k' i' v2 with ⟨p1, p2⟩ | ⟨t1, t2, t3, t4⟩
    · exact h.2.1 k i k' i' o1 p1 (by rw [← o2, ← p2]; exact ee)
    · have := hN k i o1
      omega
    · have := hN k' i' p1
      omega
    · exact ⟨by omega, by omega⟩
  · intro k i v hk
    rcases cls k i v with ⟨o1, o2⟩ | ⟨n1, n2, n3, n4⟩
    · rw [o2]; exact Or.inl (h.2.2.1 k i o1 hk)
    · rw [n3]; exact Or.inr n4
  · intro k i v
    rcases cls k i v with ⟨o1, o2⟩ | ⟨n1, n2, n3, n4⟩
    · rw [o2]; exact h.2.2.2.1 k i o1
    · rw [n3]; exact Nat.le_trans hNA n4
  · intro i hi
    rw [eC] at hi
    by_cases g9 : i = c + 2
    · rw [g9, g0]
      exact hcap
    · rw [go i g9, lso i hi g9]
      exact h.cap hi
end LSO
/-! the states behind an order, and behind a crowd's orders are cleared -/
def orT (st : St) (c : Nat) (x : Int32) : St := sSet (sSet st 5 (24 * c + mC st c) x) 4 c (nI (mC st c + 1))
def clT (st : St) (c : Nat) : St := sSet st 4 c 0
theorem mC_set_ne {st : St} {c i : Nat} {v : Int32} (h : i ≠ c) : mC (sSet st 4 c v) i = mC st i := by unfold mC; rw [sSet_ne _ _ _ _ _ _ h]
theorem mC_set {st : St} {c n : Nat} (hn : n < 2 ^ 30) : mC (sSet st 4 c (nI n)) c = n := by unfold mC; rw [sSet_same]; exact nI_clamp (by omega)
theorem mC_set5 {st : St} {k i : Nat} {v : Int32} : mC (sSet st 5 k v) i = mC st i := rfl
theorem Inv.cl {st : St} (h : Inv st) {c : Nat} (hc : c < nC st) : Inv (clT st c) := by
  obtain ⟨h1, h2, h3, h4, h5, h6⟩ := h
  refine ⟨h1, h2, fun j hj => ?_, h4, fun j hj => ?_, h6⟩
  · have g := h3 j hj
    refine ⟨g.1, g.2.1, g.2.2.1, ?_, fun k hk => ?_⟩
    · by_cases e : j = c
      · subst e
        unfold clT
        rw [sSet_same]
        exact ⟨0, by omega, rfl⟩
      · unfold clT
        rw [sSet_ne _ _ _ _ _ _ e]
        exact g.2.2.2.1
    · by_cases e : j = c
      · subst e
        have : mC (clT st j) j = 0 := mC_set (n := 0) (by omega)
        omega
      · have : mC (clT st c) j = mC st j := mC_set_ne e
        exact g.2.2.2.2 k (by omega)
  · have hj' : nC st ≤ j := hj
    refine ⟨?_, (h5 j hj).2⟩
    unfold clT
    rw [sSet_ne _ _ _ _ _ _ (by omega)]
    exact (h5 j hj).1
theorem orT_5 (st : St) (c : Nat) (x : Int32) : orT st c x 5 = upd (st 5) (24 * c + mC st c) x := rfl
theorem orT_4 (st : St) (c : Nat) (x : Int32) : orT st c x 4 = upd (st 4) c (nI (mC st c + 1)) := rfl
theorem mC_or {st : St} {c : Nat} {x : Int32} (hm : mC st c ≤ 24) : mC (orT st c x) c = mC st c + 1 := by
  show (orT st c x 4 c).toNatClampNeg = _
  rw [orT_4, pk_us]; exact nI_clamp (by omega)
theorem mC_or_ne {st : St} {c i : Nat} {x : Int32} (h : i ≠ c) : mC (orT st c x) i = mC st i := by unfold mC; rw [orT_4, pk_un h]
theorem Inv.or {st : St} (h : Inv st) {c : Nat} {x : Int32} (hc : c < nC st) (hm : mC st c ≤ 23) (hx : Bd x 12) : Inv (orT st c x) := by
  obtain ⟨h1, h2, h3, h4, h5, h6⟩ := h
  refine ⟨h1, h2, fun j hj => ?_, h4, fun j hj => ?_, h6⟩
  · have hj' : j < nC st := hj
    have g := h3 j hj
    have gm : mC st j ≤ 24 := by have := (g.2.2.2.1.cl (by omega)).2; unfold cN at this; unfold mC; omega
    refine ⟨g.1, g.2.1, g.2.2.1, ?_, fun k hk => ?_⟩
    · by_cases e : j = c
      · subst e
        rw [orT_4, pk_us]
        exact ⟨mC st j + 1, by omega, rfl⟩
      · rw [orT_4, pk_un e]
        exact g.2.2.2.1
    · rw [orT_5]
      by_cases e : j = c
      · subst e
        rw [mC_or (by omega)] at hk
        by_cases e2 : k = mC st j
        · subst e2
          rw [pk_us]
          exact hx
        · rw [pk_un (by omega)]
          exact g.2.2.2.2 k (by omega)
      · rw [mC_or_ne e] at hk
        rw [pk_un (by omega)]
        exact g.2.2.2.2 k hk
  · have hj' : nC st ≤ j := hj
    refine ⟨?_, (h5 j hj).2⟩
    rw [orT_4, pk_un (by omega)]
    exact (h5 j hj).1
section ORD
variable {z : Zt} {F : Nat → Prop} {ad : Nat → Nat → Nat} {st : St} {gh : Gh} {H H1 : Heap} {c : Nat}
/-- an order is added -/
theorem QW.ord (h : QW z F ad st gh H) (hc : c < nC st) (hm : mC st c ≤ 23) {j : Nat} (hj : j < 12) (hA1 : HA z H) (hA2 : HA z H1) (ho : ¬ AA z (zs z 0))
    (hr : AddR z (ad 2 (c + 2)) (eA z ad gh (c + 2)) (gh.1 (c + 2) + 1) (mC st c) (gh.2 (c + 2)) (qel z ad st (c + 2)) (zi z (j + 128)) H H1) : XP z F ad (orT st c (nI j)) H H1 := by
  have hfr := AddR.fr hr (fun h0 => by unfold eA; rw [if_pos h0]) hA1 hA2 ho
  obtain ⟨e', cap', j1, j2, j3, j4, j5, -⟩ := hr
  have v2 : Vq st gh 2 (c + 2) := show c + 2 < nC st + 2 by omega
  have heE : 0 < gh.2 (c + 2) → eA z ad gh (c + 2) = ad 3 (c + 2) := fun h => by unfold eA; rw [if_neg (by omega)]
  have hmc := h.mCi hc
  have hcl : cN (nI j) = j := nI_clamp (by omega)
  have hQ1 := QW.lsO (N := H.size) (c := c) (e := e') (cap := cap') (md := gh.1 (c + 2) + 1) (st' := orT st c (nI j)) (H1 := H1) h hc (fun k i hv => h.lt hv) hA1.1 rfl rfl rfl rfl rfl rfl rfl rfl rfl rfl rfl
    (fun i hi hne => ⟨mC_or_ne hne, fun k hk => by rw [orT_5, pk_un (by have := (h.mCi hi).1; omega)]⟩) (h.inv.or hc hm ⟨j, hj, rfl⟩)
    (fun k i hv h1 h2 => hfr _ (h.lt hv) (h.ap hv v2 h1) (fun h0 => by rw [heE h0]; exact h.ap hv ⟨by omega, h0⟩ h2))
    (by rw [mC_or (by omega)]; exact j1)
    (Or.inr ⟨by omega, by
      rcases j5 with ⟨g1, -, g3, -⟩ | ⟨g1, -⟩
      · exact Or.inl ⟨g3, by rw [g1]; exact heE g3⟩
      · exact Or.inr (by rw [g1]; exact Nat.le_refl _), by
      have e9 : (fun k => if k < mC (orT st c (nI j)) c then some (zi z (cN (orT st c (nI j) 5 (24 * c + k)) + 128)) else none) = va_up (qel z ad st (c + 2)) (mC st c) (some (zi z (j + 128))) := by
        funext k
        show _ = (if k = mC st c then some (zi z (j + 128)) else if k < mC st c then some (zi z (cN (st 5 (24 * c + k)) + 128)) else none)
        rw [mC_or (by omega), orT_5]
        by_cases x1 : k = mC st c
        · rw [if_pos x1, if_pos (by omega), x1, pk_us, hcl]
        · rw [if_neg x1]
          by_cases x2 : k < mC st c
          · rw [if_pos x2, if_pos (by omega), pk_un (by omega)]
          · rw [if_neg x2, if_neg (by omega)]
      rw [e9]
      exact j4⟩)
    (by rw [mC_or (by omega)]; exact ⟨j2, j3⟩)
  refine ⟨_, _, _, hQ1, rfl, fun q hq => hq, fun q hq hF => hfr q hq (fun e => hF (by rw [e]; exact h.2.2.1 2 _ v2 (by omega))) (fun h0 e => hF (by rw [e, heE h0]; exact h.2.2.1 3 _ ⟨by omega, h0⟩ (by omega)))⟩
/-- a crowd's orders are cleared -/
theorem QW.clr (h : QW z F ad st gh H) (hc : c < nC st) (hA1 : HA z H) (hA2 : HA z H1) (ho : ¬ AA z (zs z 0))
    (r1 : c1 z (ad 2 (c + 2)) (.inr (2, [.int (gh.1 (c + 2) + 1), .ref (eA z ad gh (c + 2)), .int (nI 0)])) H1) (r2 : 0 < gh.2 (c + 2) → c1 z (eA z ad gh (c + 2)) (aQ z (gh.2 (c + 2)) (fun _ => none)) H1) (r3 : ∀ q, q ≠ ad 2 (c + 2) → q ≠ eA z ad gh (c + 2) → H1[q]? = H[q]?) : XP z F ad (clT st c) H H1 := by
  have v2 : Vq st gh 2 (c + 2) := show c + 2 < nC st + 2 by omega
  have heE : 0 < gh.2 (c + 2) → eA z ad gh (c + 2) = ad 3 (c + 2) := fun h => by unfold eA; rw [if_neg (by omega)]
  have hm0 : mC (clT st c) c = 0 := mC_set (n := 0) (by omega)
  have hfr : ∀ q, q ≠ ad 2 (c + 2) → (0 < gh.2 (c + 2) → q ≠ eA z ad gh (c + 2)) → H1[q]? = H[q]? := fun q h1 h2 => by
    rcases Nat.eq_zero_or_pos (gh.2 (c + 2)) with g | g
    · by_cases g9 : q = eA z ad gh (c + 2)
      · have h9 : ¬ AA z q := by rw [g9]; unfold eA; rw [if_pos g]; exact ho
        have h8 : q < (zH z).size := Nat.not_le.mp h9
        rw [hA1.2 q h8, hA2.2 q h8]
      · exact r3 q h1 g9
    · exact r3 q h1 (h2 g)
  have hQ1 := QW.lsO (N := H.size) (c := c) (e := eA z ad gh (c + 2)) (cap := gh.2 (c + 2)) (md := gh.1 (c + 2) + 1) (st' := clT st c) (H1 := H1) h hc (fun k i hv => h.lt hv) hA1.1 rfl rfl rfl rfl rfl rfl rfl rfl rfl rfl rfl
    (fun i hi hne => ⟨mC_set_ne hne, fun k hk => rfl⟩) (h.inv.cl hc)
    (fun k i hv h1 h2 => hfr _ (h.ap hv v2 h1) (fun h0 => by rw [heE h0]; exact h.ap hv ⟨by omega, h0⟩ h2))
    (by rw [hm0]; exact r1)
    (by
      rcases Nat.eq_zero_or_pos (gh.2 (c + 2)) with g | g
      · exact Or.inl ⟨g, by unfold eA; rw [if_pos g]⟩
      · refine Or.inr ⟨g, Or.inl ⟨g, heE g⟩, ?_⟩
        have e9 : (fun k => if k < mC (clT st c) c then some (zi z (cN (clT st c 5 (24 * c + k)) + 128)) else none) = (fun _ => none) := by
          funext k
          rw [hm0, if_neg (by omega)]
        rw [e9]
        exact r2 g)
    (by rw [hm0]; exact ⟨by omega, (h.cap (i := c + 2) (by omega)).2⟩)
  refine ⟨_, _, _, hQ1, rfl, fun q hq => hq, fun q hq hF => hfr q (fun e => hF (by rw [e]; exact h.2.2.1 2 _ v2 (by omega))) (fun h0 e => hF (by rw [e, heE h0]; exact h.2.2.1 3 _ ⟨by omega, h0⟩ (by omega)))⟩
end ORD

