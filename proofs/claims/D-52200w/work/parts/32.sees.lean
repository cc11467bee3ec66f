set_option maxRecDepth 100000
def rm12 (x : Int32) : Int32 := x - x / 12 * 12
def dX (d : Int32) : Int32 := if d = 1 then 1 else if d = 3 then -1 else 0
def dY (d : Int32) : Int32 := if d = 2 then 1 else if d = 0 then -1 else 0
/-- the neighbour; -1 outside -/
def bes (x d : Int32) : Int32 := if rm12 x + dX d < 0 then -1 else if 12 ≤ rm12 x + dX d then -1 else if x / 12 + dY d < 0 then -1 else if x / 12 + dY d < 9 then 12 * (x / 12 + dY d) + (rm12 x + dX d) else -1
def besOk (c d : Nat) : Bool := bes (nI c) (nI d) == -1 || decide ((bes (nI c) (nI d)).toBitVec.toNat < 108)
theorem bes_all : ((List.range 108).all fun c => (List.range 4).all fun d => besOk c d) = true := by decide +kernel
theorem bd_of_toNat {x : Int32} {n : Nat} (h : x.toBitVec.toNat < n) (hn : n ≤ 2 ^ 30) : Bd x n := by
  refine ⟨x.toBitVec.toNat, h, ?_⟩
  apply Int32.toBitVec_inj.mp
  unfold nI
  apply BitVec.eq_of_toNat_eq
  rw [show (Int32.ofNat x.toBitVec.toNat).toBitVec = BitVec.ofNat 32 x.toBitVec.toNat from rfl, BitVec.toNat_ofNat, Nat.mod_eq_of_lt (by omega)]
theorem bes_cl {x d : Int32} (hx : Bd x 108) (hd : Bd d 4) : Cl (bes x d) := by
  obtain ⟨c, hc, rfl⟩ := hx
  obtain ⟨e, he, rfl⟩ := hd
  have h1 := List.all_eq_true.mp (List.all_eq_true.mp bes_all c (List.mem_range.mpr hc)) e (List.mem_range.mpr he)
  unfold besOk at h1
  rw [Bool.or_eq_true] at h1
  rcases h1 with h1 | h1
  · exact Or.inl (by simpa using h1)
  · exact Or.inr (bd_of_toNat (by simpa using h1) (by omega))

set_option maxHeartbeats 4000000 in
theorem m_X1_beside (z : Zt) (l : Launch) {H : Heap} {x d : Int32} : Ri z l yX1_beside cX1_beside 4 .int [.int x, .int d] H 1 (fun r => r = bes x d) := by
  refine en_Ri (own := RX1) (by decide) rfl (Nat.le_of_ble_eq_true rfl) ?_
  intro ag pp ev sS mM below meth cd ls Q C hS hl hR
  have hx := C.1.1
  have hb := C.1.2.1
  have hl : lv_has ls 4 [(0, .int x), (1, .int d)] := hl
  refine lv_iload_n hx hb dX1_beside_0 rfl (lv_at hl 0 rfl) ?_
  refine lv_bipush (v := 12) hx hb dX1_beside_1 (by decide) ?_
  refine lv_irem hx hb dX1_beside_3 (by decide) ?_
  refine lv_iload_n hx hb dX1_beside_4 rfl (lv_at hl 1 rfl) ?_
  refine lv_iconst (v := 1) hx hb dX1_beside_5 (by decide) ?_
  refine lv_icmp_ne (tgt := 13) hx hb dX1_beside_6 (by decide) (fun c_6 => ?_) (fun c_6 => ?_)
  · skip
    refine lv_iload_n hx hb dX1_beside_13 rfl (lv_at hl 1 rfl) ?_
    refine lv_iconst (v := 3) hx hb dX1_beside_14 (by decide) ?_
    refine lv_icmp_ne (tgt := 22) hx hb dX1_beside_15 (by decide) (fun c_15 => ?_) (fun c_15 => ?_)
    · skip
      refine lv_iconst (v := 0) hx hb dX1_beside_22 (by decide) ?_
      refine lv_iadd hx hb dX1_beside_23 ?_
      refine lv_seti (y := rm12 x + dX d) (by first | (simp [dX, rm12, c_6]; done) | (simp [dX, rm12, c_6, c_15]; done)) ?_
      refine lv_istore_n (lv' := [(2, _), (0, _), (1, _)]) hx hb dX1_beside_24 rfl hl (by decide) rfl (fun ls hl => ?_)
      refine lv_iload_n hx hb dX1_beside_25 rfl (lv_at hl 1 rfl) ?_
      refine lv_bipush (v := 12) hx hb dX1_beside_26 (by decide) ?_
      refine lv_idiv hx hb dX1_beside_28 (by decide) ?_
      refine lv_iload_n hx hb dX1_beside_29 rfl (lv_at hl 2 rfl) ?_
      refine lv_iconst (v := 2) hx hb dX1_beside_30 (by decide) ?_
      refine lv_icmp_ne (tgt := 38) hx hb dX1_beside_31 (by decide) (fun c_31 => ?_) (fun c_31 => ?_)
      · skip
        refine lv_iload_n hx hb dX1_beside_38 rfl (lv_at hl 2 rfl) ?_
        refine lv_if_ne (tgt := 46) hx hb dX1_beside_39 (by decide) (fun c_39 => ?_) (fun c_39 => ?_)
        · skip
          refine lv_iconst (v := 0) hx hb dX1_beside_46 (by decide) ?_
          refine lv_iadd hx hb dX1_beside_47 ?_
          refine lv_seti (y := x / 12 + dY d) (by first | (simp [dY, c_31]; done) | (simp [dY, c_31, c_39]; done)) ?_
          refine lv_istore_n (lv' := [(3, _), (2, _), (0, _), (1, _)]) hx hb dX1_beside_48 rfl hl (by decide) rfl (fun ls hl => ?_)
          refine lv_iload_n hx hb dX1_beside_49 rfl (lv_at hl 1 rfl) ?_
          refine lv_if_lt (tgt := 69) hx hb dX1_beside_50 (by decide) (fun c_50 => ?_) (fun c_50 => ?_)
          · skip
            refine lv_iconst (v := (-1)) hx hb dX1_beside_69 (by decide) ?_
            refine lv_goto (tgt := 79) hx hb dX1_beside_70 (by decide) ?_
            exact hR _ _ _ dX1_beside_79 rfl (by first | (simp [bes, c_50]; done) | (simp [bes, c_50, c_56]; done) | (simp [bes, c_50, c_56, c_60]; done) | (simp [bes, c_50, c_56, c_60, c_66]; done))
          · skip
            refine lv_iload_n hx hb dX1_beside_53 rfl (lv_at hl 1 rfl) ?_
            refine lv_bipush (v := 12) hx hb dX1_beside_54 (by decide) ?_
            refine lv_icmp_ge (tgt := 69) hx hb dX1_beside_56 (by decide) (fun c_56 => ?_) (fun c_56 => ?_)
            · skip
              refine lv_iconst (v := (-1)) hx hb dX1_beside_69 (by decide) ?_
              refine lv_goto (tgt := 79) hx hb dX1_beside_70 (by decide) ?_
              exact hR _ _ _ dX1_beside_79 rfl (by first | (simp [bes, c_50]; done) | (simp [bes, c_50, c_56]; done) | (simp [bes, c_50, c_56, c_60]; done) | (simp [bes, c_50, c_56, c_60, c_66]; done))
            · skip
              refine lv_iload_n hx hb dX1_beside_59 rfl (lv_at hl 0 rfl) ?_
              refine lv_if_lt (tgt := 69) hx hb dX1_beside_60 (by decide) (fun c_60 => ?_) (fun c_60 => ?_)
              · skip
                refine lv_iconst (v := (-1)) hx hb dX1_beside_69 (by decide) ?_
                refine lv_goto (tgt := 79) hx hb dX1_beside_70 (by decide) ?_
                exact hR _ _ _ dX1_beside_79 rfl (by first | (simp [bes, c_50]; done) | (simp [bes, c_50, c_56]; done) | (simp [bes, c_50, c_56, c_60]; done) | (simp [bes, c_50, c_56, c_60, c_66]; done))
              · skip
                refine lv_iload_n hx hb dX1_beside_63 rfl (lv_at hl 0 rfl) ?_
                refine lv_bipush (v := 9) hx hb dX1_beside_64 (by decide) ?_
                refine lv_icmp_lt (tgt := 73) hx hb dX1_beside_66 (by decide) (fun c_66 => ?_) (fun c_66 => ?_)
                · skip
                  refine lv_bipush (v := 12) hx hb dX1_beside_73 (by decide) ?_
                  refine lv_iload_n hx hb dX1_beside_75 rfl (lv_at hl 0 rfl) ?_
                  refine lv_imul hx hb dX1_beside_76 ?_
                  refine lv_iload_n hx hb dX1_beside_77 rfl (lv_at hl 1 rfl) ?_
                  refine lv_iadd hx hb dX1_beside_78 ?_
                  exact hR _ _ _ dX1_beside_79 rfl (by first | (simp [bes, c_50]; done) | (simp [bes, c_50, c_56]; done) | (simp [bes, c_50, c_56, c_60]; done) | (simp [bes, c_50, c_56, c_60, c_66]; done))
                · skip
                  refine lv_iconst (v := (-1)) hx hb dX1_beside_69 (by decide) ?_
                  refine lv_goto (tgt := 79) hx hb dX1_beside_70 (by decide) ?_
                  exact hR _ _ _ dX1_beside_79 rfl (by first | (simp [bes, c_50]; done) | (simp [bes, c_50, c_56]; done) | (simp [bes, c_50, c_56, c_60]; done) | (simp [bes, c_50, c_56, c_60, c_66]; done))
        · skip
          refine lv_iconst (v := (-1)) hx hb dX1_beside_42 (by decide) ?_
          refine lv_goto (tgt := 47) hx hb dX1_beside_43 (by decide) ?_
          refine lv_iadd hx hb dX1_beside_47 ?_
          refine lv_seti (y := x / 12 + dY d) (by first | (simp [dY, c_31]; done) | (simp [dY, c_31, c_39]; done)) ?_
          refine lv_istore_n (lv' := [(3, _), (2, _), (0, _), (1, _)]) hx hb dX1_beside_48 rfl hl (by decide) rfl (fun ls hl => ?_)
          refine lv_iload_n hx hb dX1_beside_49 rfl (lv_at hl 1 rfl) ?_
          refine lv_if_lt (tgt := 69) hx hb dX1_beside_50 (by decide) (fun c_50 => ?_) (fun c_50 => ?_)
          · skip
            refine lv_iconst (v := (-1)) hx hb dX1_beside_69 (by decide) ?_
            refine lv_goto (tgt := 79) hx hb dX1_beside_70 (by decide) ?_
            exact hR _ _ _ dX1_beside_79 rfl (by first | (simp [bes, c_50]; done) | (simp [bes, c_50, c_56]; done) | (simp [bes, c_50, c_56, c_60]; done) | (simp [bes, c_50, c_56, c_60, c_66]; done))
          · skip
            refine lv_iload_n hx hb dX1_beside_53 rfl (lv_at hl 1 rfl) ?_
            refine lv_bipush (v := 12) hx hb dX1_beside_54 (by decide) ?_
            refine lv_icmp_ge (tgt := 69) hx hb dX1_beside_56 (by decide) (fun c_56 => ?_) (fun c_56 => ?_)
            · skip
              refine lv_iconst (v := (-1)) hx hb dX1_beside_69 (by decide) ?_
              refine lv_goto (tgt := 79) hx hb dX1_beside_70 (by decide) ?_
              exact hR _ _ _ dX1_beside_79 rfl (by first | (simp [bes, c_50]; done) | (simp [bes, c_50, c_56]; done) | (simp [bes, c_50, c_56, c_60]; done) | (simp [bes, c_50, c_56, c_60, c_66]; done))
            · skip
              refine lv_iload_n hx hb dX1_beside_59 rfl (lv_at hl 0 rfl) ?_
              refine lv_if_lt (tgt := 69) hx hb dX1_beside_60 (by decide) (fun c_60 => ?_) (fun c_60 => ?_)
              · skip
                refine lv_iconst (v := (-1)) hx hb dX1_beside_69 (by decide) ?_
                refine lv_goto (tgt := 79) hx hb dX1_beside_70 (by decide) ?_
                exact hR _ _ _ dX1_beside_79 rfl (by first | (simp [bes, c_50]; done) | (simp [bes, c_50, c_56]; done) | (simp [bes, c_50, c_56, c_60]; done) | (simp [bes, c_50, c_56, c_60, c_66]; done))
              · skip
                refine lv_iload_n hx hb dX1_beside_63 rfl (lv_at hl 0 rfl) ?_
                refine lv_bipush (v := 9) hx hb dX1_beside_64 (by decide) ?_
                refine lv_icmp_lt (tgt := 73) hx hb dX1_beside_66 (by decide) (fun c_66 => ?_) (fun c_66 => ?_)
                · skip
                  refine lv_bipush (v := 12) hx hb dX1_beside_73 (by decide) ?_
                  refine lv_iload_n hx hb dX1_beside_75 rfl (lv_at hl 0 rfl) ?_
                  refine lv_imul hx hb dX1_beside_76 ?_
                  refine lv_iload_n hx hb dX1_beside_77 rfl (lv_at hl 1 rfl) ?_
                  refine lv_iadd hx hb dX1_beside_78 ?_
                  exact hR _ _ _ dX1_beside_79 rfl (by first | (simp [bes, c_50]; done) | (simp [bes, c_50, c_56]; done) | (simp [bes, c_50, c_56, c_60]; done) | (simp [bes, c_50, c_56, c_60, c_66]; done))
                · skip
                  refine lv_iconst (v := (-1)) hx hb dX1_beside_69 (by decide) ?_
                  refine lv_goto (tgt := 79) hx hb dX1_beside_70 (by decide) ?_
                  exact hR _ _ _ dX1_beside_79 rfl (by first | (simp [bes, c_50]; done) | (simp [bes, c_50, c_56]; done) | (simp [bes, c_50, c_56, c_60]; done) | (simp [bes, c_50, c_56, c_60, c_66]; done))
      · skip
        refine lv_iconst (v := 1) hx hb dX1_beside_34 (by decide) ?_
        refine lv_goto (tgt := 47) hx hb dX1_beside_35 (by decide) ?_
        refine lv_iadd hx hb dX1_beside_47 ?_
        refine lv_seti (y := x / 12 + dY d) (by first | (simp [dY, c_31]; done) | (simp [dY, c_31, c_39]; done)) ?_
        refine lv_istore_n (lv' := [(3, _), (2, _), (0, _), (1, _)]) hx hb dX1_beside_48 rfl hl (by decide) rfl (fun ls hl => ?_)
        refine lv_iload_n hx hb dX1_beside_49 rfl (lv_at hl 1 rfl) ?_
        refine lv_if_lt (tgt := 69) hx hb dX1_beside_50 (by decide) (fun c_50 => ?_) (fun c_50 => ?_)
        · skip
          refine lv_iconst (v := (-1)) hx hb dX1_beside_69 (by decide) ?_
          refine lv_goto (tgt := 79) hx hb dX1_beside_70 (by decide) ?_
          exact hR _ _ _ dX1_beside_79 rfl (by first | (simp [bes, c_50]; done) | (simp [bes, c_50, c_56]; done) | (simp [bes, c_50, c_56, c_60]; done) | (simp [bes, c_50, c_56, c_60, c_66]; done))
        · skip
          refine lv_iload_n hx hb dX1_beside_53 rfl (lv_at hl 1 rfl) ?_
          refine lv_bipush (v := 12) hx hb dX1_beside_54 (by decide) ?_
          refine lv_icmp_ge (tgt := 69) hx hb dX1_beside_56 (by decide) (fun c_56 => ?_) (fun c_56 => ?_)
          · skip
            refine lv_iconst (v := (-1)) hx hb dX1_beside_69 (by decide) ?_
            refine lv_goto (tgt := 79) hx hb dX1_beside_70 (by decide) ?_
            exact hR _ _ _ dX1_beside_79 rfl (by first | (simp [bes, c_50]; done) | (simp [bes, c_50, c_56]; done) | (simp [bes, c_50, c_56, c_60]; done) | (simp [bes, c_50, c_56, c_60, c_66]; done))
          · skip
            refine lv_iload_n hx hb dX1_beside_59 rfl (lv_at hl 0 rfl) ?_
            refine lv_if_lt (tgt := 69) hx hb dX1_beside_60 (by decide) (fun c_60 => ?_) (fun c_60 => ?_)
            · skip
              refine lv_iconst (v := (-1)) hx hb dX1_beside_69 (by decide) ?_
              refine lv_goto (tgt := 79) hx hb dX1_beside_70 (by decide) ?_
              exact hR _ _ _ dX1_beside_79 rfl (by first | (simp [bes, c_50]; done) | (simp [bes, c_50, c_56]; done) | (simp [bes, c_50, c_56, c_60]; done) | (simp [bes, c_50, c_56, c_60, c_66]; done))
            · skip
              refine lv_iload_n hx hb dX1_beside_63 rfl (lv_at hl 0 rfl) ?_
              refine lv_bipush (v := 9) hx hb dX1_beside_64 (by decide) ?_
              refine lv_icmp_lt (tgt := 73) hx hb dX1_beside_66 (by decide) (fun c_66 => ?_) (fun c_66 => ?_)
              · skip
                refine lv_bipush (v := 12) hx hb dX1_beside_73 (by decide) ?_
                refine lv_iload_n hx hb dX1_beside_75 rfl (lv_at hl 0 rfl) ?_
                refine lv_imul hx hb dX1_beside_76 ?_
                refine lv_iload_n hx hb dX1_beside_77 rfl (lv_at hl 1 rfl) ?_
                refine lv_iadd hx hb dX1_beside_78 ?_
                exact hR _ _ _ dX1_beside_79 rfl (by first | (simp [bes, c_50]; done) | (simp [bes, c_50, c_56]; done) | (simp [bes, c_50, c_56, c_60]; done) | (simp [bes, c_50, c_56, c_60, c_66]; done))
              · skip
                refine lv_iconst (v := (-1)) hx hb dX1_beside_69 (by decide) ?_
                refine lv_goto (tgt := 79) hx hb dX1_beside_70 (by decide) ?_
                exact hR _ _ _ dX1_beside_79 rfl (by first | (simp [bes, c_50]; done) | (simp [bes, c_50, c_56]; done) | (simp [bes, c_50, c_56, c_60]; done) | (simp [bes, c_50, c_56, c_60, c_66]; done))
    · skip
      refine lv_iconst (v := (-1)) hx hb dX1_beside_18 (by decide) ?_
      refine lv_goto (tgt := 23) hx hb dX1_beside_19 (by decide) ?_
      refine lv_iadd hx hb dX1_beside_23 ?_
      refine lv_seti (y := rm12 x + dX d) (by first | (simp [dX, rm12, c_6]; done) | (simp [dX, rm12, c_6, c_15]; done)) ?_
      refine lv_istore_n (lv' := [(2, _), (0, _), (1, _)]) hx hb dX1_beside_24 rfl hl (by decide) rfl (fun ls hl => ?_)
      refine lv_iload_n hx hb dX1_beside_25 rfl (lv_at hl 1 rfl) ?_
      refine lv_bipush (v := 12) hx hb dX1_beside_26 (by decide) ?_
      refine lv_idiv hx hb dX1_beside_28 (by decide) ?_
      refine lv_iload_n hx hb dX1_beside_29 rfl (lv_at hl 2 rfl) ?_
      refine lv_iconst (v := 2) hx hb dX1_beside_30 (by decide) ?_
      refine lv_icmp_ne (tgt := 38) hx hb dX1_beside_31 (by decide) (fun c_31 => ?_) (fun c_31 => ?_)
      · skip
        refine lv_iload_n hx hb dX1_beside_38 rfl (lv_at hl 2 rfl) ?_
        refine lv_if_ne (tgt := 46) hx hb dX1_beside_39 (by decide) (fun c_39 => ?_) (fun c_39 => ?_)
        · skip
          refine lv_iconst (v := 0) hx hb dX1_beside_46 (by decide) ?_
          refine lv_iadd hx hb dX1_beside_47 ?_
          refine lv_seti (y := x / 12 + dY d) (by first | (simp [dY, c_31]; done) | (simp [dY, c_31, c_39]; done)) ?_
          refine lv_istore_n (lv' := [(3, _), (2, _), (0, _), (1, _)]) hx hb dX1_beside_48 rfl hl (by decide) rfl (fun ls hl => ?_)
          refine lv_iload_n hx hb dX1_beside_49 rfl (lv_at hl 1 rfl) ?_
          refine lv_if_lt (tgt := 69) hx hb dX1_beside_50 (by decide) (fun c_50 => ?_) (fun c_50 => ?_)
          · skip
            refine lv_iconst (v := (-1)) hx hb dX1_beside_69 (by decide) ?_
            refine lv_goto (tgt := 79) hx hb dX1_beside_70 (by decide) ?_
            exact hR _ _ _ dX1_beside_79 rfl (by first | (simp [bes, c_50]; done) | (simp [bes, c_50, c_56]; done) | (simp [bes, c_50, c_56, c_60]; done) | (simp [bes, c_50, c_56, c_60, c_66]; done))
          · skip
            refine lv_iload_n hx hb dX1_beside_53 rfl (lv_at hl 1 rfl) ?_
            refine lv_bipush (v := 12) hx hb dX1_beside_54 (by decide) ?_
            refine lv_icmp_ge (tgt := 69) hx hb dX1_beside_56 (by decide) (fun c_56 => ?_) (fun c_56 => ?_)
            · skip
              refine lv_iconst (v := (-1)) hx hb dX1_beside_69 (by decide) ?_
              refine lv_goto (tgt := 79) hx hb dX1_beside_70 (by decide) ?_
              exact hR _ _ _ dX1_beside_79 rfl (by first | (simp [bes, c_50]; done) | (simp [bes, c_50, c_56]; done) | (simp [bes, c_50, c_56, c_60]; done) | (simp [bes, c_50, c_56, c_60, c_66]; done))
            · skip
              refine lv_iload_n hx hb dX1_beside_59 rfl (lv_at hl 0 rfl) ?_
              refine lv_if_lt (tgt := 69) hx hb dX1_beside_60 (by decide) (fun c_60 => ?_) (fun c_60 => ?_)
              · skip
                refine lv_iconst (v := (-1)) hx hb dX1_beside_69 (by decide) ?_
                refine lv_goto (tgt := 79) hx hb dX1_beside_70 (by decide) ?_
                exact hR _ _ _ dX1_beside_79 rfl (by first | (simp [bes, c_50]; done) | (simp [bes, c_50, c_56]; done) | (simp [bes, c_50, c_56, c_60]; done) | (simp [bes, c_50, c_56, c_60, c_66]; done))
              · skip
                refine lv_iload_n hx hb dX1_beside_63 rfl (lv_at hl 0 rfl) ?_
                refine lv_bipush (v := 9) hx hb dX1_beside_64 (by decide) ?_
                refine lv_icmp_lt (tgt := 73) hx hb dX1_beside_66 (by decide) (fun c_66 => ?_) (fun c_66 => ?_)
                · skip
                  refine lv_bipush (v := 12) hx hb dX1_beside_73 (by decide) ?_
                  refine lv_iload_n hx hb dX1_beside_75 rfl (lv_at hl 0 rfl) ?_
                  refine lv_imul hx hb dX1_beside_76 ?_
                  refine lv_iload_n hx hb dX1_beside_77 rfl (lv_at hl 1 rfl) ?_
                  refine lv_iadd hx hb dX1_beside_78 ?_
                  exact hR _ _ _ dX1_beside_79 rfl (by first | (simp [bes, c_50]; done) | (simp [bes, c_50, c_56]; done) | (simp [bes, c_50, c_56, c_60]; done) | (simp [bes, c_50, c_56, c_60, c_66]; done))
                · skip
                  refine lv_iconst (v := (-1)) hx hb dX1_beside_69 (by decide) ?_
                  refine lv_goto (tgt := 79) hx hb dX1_beside_70 (by decide) ?_
                  exact hR _ _ _ dX1_beside_79 rfl (by first | (simp [bes, c_50]; done) | (simp [bes, c_50, c_56]; done) | (simp [bes, c_50, c_56, c_60]; done) | (simp [bes, c_50, c_56, c_60, c_66]; done))
        · skip
          refine lv_iconst (v := (-1)) hx hb dX1_beside_42 (by decide) ?_
          refine lv_goto (tgt := 47) hx hb dX1_beside_43 (by decide) ?_
          refine lv_iadd hx hb dX1_beside_47 ?_
          refine lv_seti (y := x / 12 + dY d) (by first | (simp [dY, c_31]; done) | (simp [dY, c_31, c_39]; done)) ?_
          refine lv_istore_n (lv' := [(3, _), (2, _), (0, _), (1, _)]) hx hb dX1_beside_48 rfl hl (by decide) rfl (fun ls hl => ?_)
          refine lv_iload_n hx hb dX1_beside_49 rfl (lv_at hl 1 rfl) ?_
          refine lv_if_lt (tgt := 69) hx hb dX1_beside_50 (by decide) (fun c_50 => ?_) (fun c_50 => ?_)
          · skip
            refine lv_iconst (v := (-1)) hx hb dX1_beside_69 (by decide) ?_
            refine lv_goto (tgt := 79) hx hb dX1_beside_70 (by decide) ?_
            exact hR _ _ _ dX1_beside_79 rfl (by first | (simp [bes, c_50]; done) | (simp [bes, c_50, c_56]; done) | (simp [bes, c_50, c_56, c_60]; done) | (simp [bes, c_50, c_56, c_60, c_66]; done))
          · skip
            refine lv_iload_n hx hb dX1_beside_53 rfl (lv_at hl 1 rfl) ?_
            refine lv_bipush (v := 12) hx hb dX1_beside_54 (by decide) ?_
            refine lv_icmp_ge (tgt := 69) hx hb dX1_beside_56 (by decide) (fun c_56 => ?_) (fun c_56 => ?_)
            · skip
              refine lv_iconst (v := (-1)) hx hb dX1_beside_69 (by decide) ?_
              refine lv_goto (tgt := 79) hx hb dX1_beside_70 (by decide) ?_
              exact hR _ _ _ dX1_beside_79 rfl (by first | (simp [bes, c_50]; done) | (simp [bes, c_50, c_56]; done) | (simp [bes, c_50, c_56, c_60]; done) | (simp [bes, c_50, c_56, c_60, c_66]; done))
            · skip
              refine lv_iload_n hx hb dX1_beside_59 rfl (lv_at hl 0 rfl) ?_
              refine lv_if_lt (tgt := 69) hx hb dX1_beside_60 (by decide) (fun c_60 => ?_) (fun c_60 => ?_)
              · skip
                refine lv_iconst (v := (-1)) hx hb dX1_beside_69 (by decide) ?_
                refine lv_goto (tgt := 79) hx hb dX1_beside_70 (by decide) ?_
                exact hR _ _ _ dX1_beside_79 rfl (by first | (simp [bes, c_50]; done) | (simp [bes, c_50, c_56]; done) | (simp [bes, c_50, c_56, c_60]; done) | (simp [bes, c_50, c_56, c_60, c_66]; done))
              · skip
                refine lv_iload_n hx hb dX1_beside_63 rfl (lv_at hl 0 rfl) ?_
                refine lv_bipush (v := 9) hx hb dX1_beside_64 (by decide) ?_
                refine lv_icmp_lt (tgt := 73) hx hb dX1_beside_66 (by decide) (fun c_66 => ?_) (fun c_66 => ?_)
                · skip
                  refine lv_bipush (v := 12) hx hb dX1_beside_73 (by decide) ?_
                  refine lv_iload_n hx hb dX1_beside_75 rfl (lv_at hl 0 rfl) ?_
                  refine lv_imul hx hb dX1_beside_76 ?_
                  refine lv_iload_n hx hb dX1_beside_77 rfl (lv_at hl 1 rfl) ?_
                  refine lv_iadd hx hb dX1_beside_78 ?_
                  exact hR _ _ _ dX1_beside_79 rfl (by first | (simp [bes, c_50]; done) | (simp [bes, c_50, c_56]; done) | (simp [bes, c_50, c_56, c_60]; done) | (simp [bes, c_50, c_56, c_60, c_66]; done))
                · skip
                  refine lv_iconst (v := (-1)) hx hb dX1_beside_69 (by decide) ?_
                  refine lv_goto (tgt := 79) hx hb dX1_beside_70 (by decide) ?_
                  exact hR _ _ _ dX1_beside_79 rfl (by first | (simp [bes, c_50]; done) | (simp [bes, c_50, c_56]; done) | (simp [bes, c_50, c_56, c_60]; done) | (simp [bes, c_50, c_56, c_60, c_66]; done))
      · skip
        refine lv_iconst (v := 1) hx hb dX1_beside_34 (by decide) ?_
        refine lv_goto (tgt := 47) hx hb dX1_beside_35 (by decide) ?_
        refine lv_iadd hx hb dX1_beside_47 ?_
        refine lv_seti (y := x / 12 + dY d) (by first | (simp [dY, c_31]; done) | (simp [dY, c_31, c_39]; done)) ?_
        refine lv_istore_n (lv' := [(3, _), (2, _), (0, _), (1, _)]) hx hb dX1_beside_48 rfl hl (by decide) rfl (fun ls hl => ?_)
        refine lv_iload_n hx hb dX1_beside_49 rfl (lv_at hl 1 rfl) ?_
        refine lv_if_lt (tgt := 69) hx hb dX1_beside_50 (by decide) (fun c_50 => ?_) (fun c_50 => ?_)
        · skip
          refine lv_iconst (v := (-1)) hx hb dX1_beside_69 (by decide) ?_
          refine lv_goto (tgt := 79) hx hb dX1_beside_70 (by decide) ?_
          exact hR _ _ _ dX1_beside_79 rfl (by first | (simp [bes, c_50]; done) | (simp [bes, c_50, c_56]; done) | (simp [bes, c_50, c_56, c_60]; done) | (simp [bes, c_50, c_56, c_60, c_66]; done))
        · skip
          refine lv_iload_n hx hb dX1_beside_53 rfl (lv_at hl 1 rfl) ?_
          refine lv_bipush (v := 12) hx hb dX1_beside_54 (by decide) ?_
          refine lv_icmp_ge (tgt := 69) hx hb dX1_beside_56 (by decide) (fun c_56 => ?_) (fun c_56 => ?_)
          · skip
            refine lv_iconst (v := (-1)) hx hb dX1_beside_69 (by decide) ?_
            refine lv_goto (tgt := 79) hx hb dX1_beside_70 (by decide) ?_
            exact hR _ _ _ dX1_beside_79 rfl (by first | (simp [bes, c_50]; done) | (simp [bes, c_50, c_56]; done) | (simp [bes, c_50, c_56, c_60]; done) | (simp [bes, c_50, c_56, c_60, c_66]; done))
          · skip
            refine lv_iload_n hx hb dX1_beside_59 rfl (lv_at hl 0 rfl) ?_
            refine lv_if_lt (tgt := 69) hx hb dX1_beside_60 (by decide) (fun c_60 => ?_) (fun c_60 => ?_)
            · skip
              refine lv_iconst (v := (-1)) hx hb dX1_beside_69 (by decide) ?_
              refine lv_goto (tgt := 79) hx hb dX1_beside_70 (by decide) ?_
              exact hR _ _ _ dX1_beside_79 rfl (by first | (simp [bes, c_50]; done) | (simp [bes, c_50, c_56]; done) | (simp [bes, c_50, c_56, c_60]; done) | (simp [bes, c_50, c_56, c_60, c_66]; done))
            · skip
              refine lv_iload_n hx hb dX1_beside_63 rfl (lv_at hl 0 rfl) ?_
              refine lv_bipush (v := 9) hx hb dX1_beside_64 (by decide) ?_
              refine lv_icmp_lt (tgt := 73) hx hb dX1_beside_66 (by decide) (fun c_66 => ?_) (fun c_66 => ?_)
              · skip
                refine lv_bipush (v := 12) hx hb dX1_beside_73 (by decide) ?_
                refine lv_iload_n hx hb dX1_beside_75 rfl (lv_at hl 0 rfl) ?_
                refine lv_imul hx hb dX1_beside_76 ?_
                refine lv_iload_n hx hb dX1_beside_77 rfl (lv_at hl 1 rfl) ?_
                refine lv_iadd hx hb dX1_beside_78 ?_
                exact hR _ _ _ dX1_beside_79 rfl (by first | (simp [bes, c_50]; done) | (simp [bes, c_50, c_56]; done) | (simp [bes, c_50, c_56, c_60]; done) | (simp [bes, c_50, c_56, c_60, c_66]; done))
              · skip
                refine lv_iconst (v := (-1)) hx hb dX1_beside_69 (by decide) ?_
                refine lv_goto (tgt := 79) hx hb dX1_beside_70 (by decide) ?_
                exact hR _ _ _ dX1_beside_79 rfl (by first | (simp [bes, c_50]; done) | (simp [bes, c_50, c_56]; done) | (simp [bes, c_50, c_56, c_60]; done) | (simp [bes, c_50, c_56, c_60, c_66]; done))
  · skip
    refine lv_iconst (v := 1) hx hb dX1_beside_9 (by decide) ?_
    refine lv_goto (tgt := 23) hx hb dX1_beside_10 (by decide) ?_
    refine lv_iadd hx hb dX1_beside_23 ?_
    refine lv_seti (y := rm12 x + dX d) (by first | (simp [dX, rm12, c_6]; done) | (simp [dX, rm12, c_6, c_15]; done)) ?_
    refine lv_istore_n (lv' := [(2, _), (0, _), (1, _)]) hx hb dX1_beside_24 rfl hl (by decide) rfl (fun ls hl => ?_)
    refine lv_iload_n hx hb dX1_beside_25 rfl (lv_at hl 1 rfl) ?_
    refine lv_bipush (v := 12) hx hb dX1_beside_26 (by decide) ?_
    refine lv_idiv hx hb dX1_beside_28 (by decide) ?_
    refine lv_iload_n hx hb dX1_beside_29 rfl (lv_at hl 2 rfl) ?_
    refine lv_iconst (v := 2) hx hb dX1_beside_30 (by decide) ?_
    refine lv_icmp_ne (tgt := 38) hx hb dX1_beside_31 (by decide) (fun c_31 => ?_) (fun c_31 => ?_)
    · skip
      refine lv_iload_n hx hb dX1_beside_38 rfl (lv_at hl 2 rfl) ?_
      refine lv_if_ne (tgt := 46) hx hb dX1_beside_39 (by decide) (fun c_39 => ?_) (fun c_39 => ?_)
      · skip
        refine lv_iconst (v := 0) hx hb dX1_beside_46 (by decide) ?_
        refine lv_iadd hx hb dX1_beside_47 ?_
        refine lv_seti (y := x / 12 + dY d) (by first | (simp [dY, c_31]; done) | (simp [dY, c_31, c_39]; done)) ?_
        refine lv_istore_n (lv' := [(3, _), (2, _), (0, _), (1, _)]) hx hb dX1_beside_48 rfl hl (by decide) rfl (fun ls hl => ?_)
        refine lv_iload_n hx hb dX1_beside_49 rfl (lv_at hl 1 rfl) ?_
        refine lv_if_lt (tgt := 69) hx hb dX1_beside_50 (by decide) (fun c_50 => ?_) (fun c_50 => ?_)
        · skip
          refine lv_iconst (v := (-1)) hx hb dX1_beside_69 (by decide) ?_
          refine lv_goto (tgt := 79) hx hb dX1_beside_70 (by decide) ?_
          exact hR _ _ _ dX1_beside_79 rfl (by first | (simp [bes, c_50]; done) | (simp [bes, c_50, c_56]; done) | (simp [bes, c_50, c_56, c_60]; done) | (simp [bes, c_50, c_56, c_60, c_66]; done))
        · skip
          refine lv_iload_n hx hb dX1_beside_53 rfl (lv_at hl 1 rfl) ?_
          refine lv_bipush (v := 12) hx hb dX1_beside_54 (by decide) ?_
          refine lv_icmp_ge (tgt := 69) hx hb dX1_beside_56 (by decide) (fun c_56 => ?_) (fun c_56 => ?_)
          · skip
            refine lv_iconst (v := (-1)) hx hb dX1_beside_69 (by decide) ?_
            refine lv_goto (tgt := 79) hx hb dX1_beside_70 (by decide) ?_
            exact hR _ _ _ dX1_beside_79 rfl (by first | (simp [bes, c_50]; done) | (simp [bes, c_50, c_56]; done) | (simp [bes, c_50, c_56, c_60]; done) | (simp [bes, c_50, c_56, c_60, c_66]; done))
          · skip
            refine lv_iload_n hx hb dX1_beside_59 rfl (lv_at hl 0 rfl) ?_
            refine lv_if_lt (tgt := 69) hx hb dX1_beside_60 (by decide) (fun c_60 => ?_) (fun c_60 => ?_)
            · skip
              refine lv_iconst (v := (-1)) hx hb dX1_beside_69 (by decide) ?_
              refine lv_goto (tgt := 79) hx hb dX1_beside_70 (by decide) ?_
              exact hR _ _ _ dX1_beside_79 rfl (by first | (simp [bes, c_50]; done) | (simp [bes, c_50, c_56]; done) | (simp [bes, c_50, c_56, c_60]; done) | (simp [bes, c_50, c_56, c_60, c_66]; done))
            · skip
              refine lv_iload_n hx hb dX1_beside_63 rfl (lv_at hl 0 rfl) ?_
              refine lv_bipush (v := 9) hx hb dX1_beside_64 (by decide) ?_
              refine lv_icmp_lt (tgt := 73) hx hb dX1_beside_66 (by decide) (fun c_66 => ?_) (fun c_66 => ?_)
              · skip
                refine lv_bipush (v := 12) hx hb dX1_beside_73 (by decide) ?_
                refine lv_iload_n hx hb dX1_beside_75 rfl (lv_at hl 0 rfl) ?_
                refine lv_imul hx hb dX1_beside_76 ?_
                refine lv_iload_n hx hb dX1_beside_77 rfl (lv_at hl 1 rfl) ?_
                refine lv_iadd hx hb dX1_beside_78 ?_
                exact hR _ _ _ dX1_beside_79 rfl (by first | (simp [bes, c_50]; done) | (simp [bes, c_50, c_56]; done) | (simp [bes, c_50, c_56, c_60]; done) | (simp [bes, c_50, c_56, c_60, c_66]; done))
              · skip
                refine lv_iconst (v := (-1)) hx hb dX1_beside_69 (by decide) ?_
                refine lv_goto (tgt := 79) hx hb dX1_beside_70 (by decide) ?_
                exact hR _ _ _ dX1_beside_79 rfl (by first | (simp [bes, c_50]; done) | (simp [bes, c_50, c_56]; done) | (simp [bes, c_50, c_56, c_60]; done) | (simp [bes, c_50, c_56, c_60, c_66]; done))
      · skip
        refine lv_iconst (v := (-1)) hx hb dX1_beside_42 (by decide) ?_
        refine lv_goto (tgt := 47) hx hb dX1_beside_43 (by decide) ?_
        refine lv_iadd hx hb dX1_beside_47 ?_
        refine lv_seti (y := x / 12 + dY d) (by first | (simp [dY, c_31]; done) | (simp [dY, c_31, c_39]; done)) ?_
        refine lv_istore_n (lv' := [(3, _), (2, _), (0, _), (1, _)]) hx hb dX1_beside_48 rfl hl (by decide) rfl (fun ls hl => ?_)
        refine lv_iload_n hx hb dX1_beside_49 rfl (lv_at hl 1 rfl) ?_
        refine lv_if_lt (tgt := 69) hx hb dX1_beside_50 (by decide) (fun c_50 => ?_) (fun c_50 => ?_)
        · skip
          refine lv_iconst (v := (-1)) hx hb dX1_beside_69 (by decide) ?_
          refine lv_goto (tgt := 79) hx hb dX1_beside_70 (by decide) ?_
          exact hR _ _ _ dX1_beside_79 rfl (by first | (simp [bes, c_50]; done) | (simp [bes, c_50, c_56]; done) | (simp [bes, c_50, c_56, c_60]; done) | (simp [bes, c_50, c_56, c_60, c_66]; done))
        · skip
          refine lv_iload_n hx hb dX1_beside_53 rfl (lv_at hl 1 rfl) ?_
          refine lv_bipush (v := 12) hx hb dX1_beside_54 (by decide) ?_
          refine lv_icmp_ge (tgt := 69) hx hb dX1_beside_56 (by decide) (fun c_56 => ?_) (fun c_56 => ?_)
          · skip
            refine lv_iconst (v := (-1)) hx hb dX1_beside_69 (by decide) ?_
            refine lv_goto (tgt := 79) hx hb dX1_beside_70 (by decide) ?_
            exact hR _ _ _ dX1_beside_79 rfl (by first | (simp [bes, c_50]; done) | (simp [bes, c_50, c_56]; done) | (simp [bes, c_50, c_56, c_60]; done) | (simp [bes, c_50, c_56, c_60, c_66]; done))
          · skip
            refine lv_iload_n hx hb dX1_beside_59 rfl (lv_at hl 0 rfl) ?_
            refine lv_if_lt (tgt := 69) hx hb dX1_beside_60 (by decide) (fun c_60 => ?_) (fun c_60 => ?_)
            · skip
              refine lv_iconst (v := (-1)) hx hb dX1_beside_69 (by decide) ?_
              refine lv_goto (tgt := 79) hx hb dX1_beside_70 (by decide) ?_
              exact hR _ _ _ dX1_beside_79 rfl (by first | (simp [bes, c_50]; done) | (simp [bes, c_50, c_56]; done) | (simp [bes, c_50, c_56, c_60]; done) | (simp [bes, c_50, c_56, c_60, c_66]; done))
            · skip
              refine lv_iload_n hx hb dX1_beside_63 rfl (lv_at hl 0 rfl) ?_
              refine lv_bipush (v := 9) hx hb dX1_beside_64 (by decide) ?_
              refine lv_icmp_lt (tgt := 73) hx hb dX1_beside_66 (by decide) (fun c_66 => ?_) (fun c_66 => ?_)
              · skip
                refine lv_bipush (v := 12) hx hb dX1_beside_73 (by decide) ?_
                refine lv_iload_n hx hb dX1_beside_75 rfl (lv_at hl 0 rfl) ?_
                refine lv_imul hx hb dX1_beside_76 ?_
                refine lv_iload_n hx hb dX1_beside_77 rfl (lv_at hl 1 rfl) ?_
                refine lv_iadd hx hb dX1_beside_78 ?_
                exact hR _ _ _ dX1_beside_79 rfl (by first | (simp [bes, c_50]; done) | (simp [bes, c_50, c_56]; done) | (simp [bes, c_50, c_56, c_60]; done) | (simp [bes, c_50, c_56, c_60, c_66]; done))
              · skip
                refine lv_iconst (v := (-1)) hx hb dX1_beside_69 (by decide) ?_
                refine lv_goto (tgt := 79) hx hb dX1_beside_70 (by decide) ?_
                exact hR _ _ _ dX1_beside_79 rfl (by first | (simp [bes, c_50]; done) | (simp [bes, c_50, c_56]; done) | (simp [bes, c_50, c_56, c_60]; done) | (simp [bes, c_50, c_56, c_60, c_66]; done))
    · skip
      refine lv_iconst (v := 1) hx hb dX1_beside_34 (by decide) ?_
      refine lv_goto (tgt := 47) hx hb dX1_beside_35 (by decide) ?_
      refine lv_iadd hx hb dX1_beside_47 ?_
      refine lv_seti (y := x / 12 + dY d) (by first | (simp [dY, c_31]; done) | (simp [dY, c_31, c_39]; done)) ?_
      refine lv_istore_n (lv' := [(3, _), (2, _), (0, _), (1, _)]) hx hb dX1_beside_48 rfl hl (by decide) rfl (fun ls hl => ?_)
      refine lv_iload_n hx hb dX1_beside_49 rfl (lv_at hl 1 rfl) ?_
      refine lv_if_lt (tgt := 69) hx hb dX1_beside_50 (by decide) (fun c_50 => ?_) (fun c_50 => ?_)
      · skip
        refine lv_iconst (v := (-1)) hx hb dX1_beside_69 (by decide) ?_
        refine lv_goto (tgt := 79) hx hb dX1_beside_70 (by decide) ?_
        exact hR _ _ _ dX1_beside_79 rfl (by first | (simp [bes, c_50]; done) | (simp [bes, c_50, c_56]; done) | (simp [bes, c_50, c_56, c_60]; done) | (simp [bes, c_50, c_56, c_60, c_66]; done))
      · skip
        refine lv_iload_n hx hb dX1_beside_53 rfl (lv_at hl 1 rfl) ?_
        refine lv_bipush (v := 12) hx hb dX1_beside_54 (by decide) ?_
        refine lv_icmp_ge (tgt := 69) hx hb dX1_beside_56 (by decide) (fun c_56 => ?_) (fun c_56 => ?_)
        · skip
          refine lv_iconst (v := (-1)) hx hb dX1_beside_69 (by decide) ?_
          refine lv_goto (tgt := 79) hx hb dX1_beside_70 (by decide) ?_
          exact hR _ _ _ dX1_beside_79 rfl (by first | (simp [bes, c_50]; done) | (simp [bes, c_50, c_56]; done) | (simp [bes, c_50, c_56, c_60]; done) | (simp [bes, c_50, c_56, c_60, c_66]; done))
        · skip
          refine lv_iload_n hx hb dX1_beside_59 rfl (lv_at hl 0 rfl) ?_
          refine lv_if_lt (tgt := 69) hx hb dX1_beside_60 (by decide) (fun c_60 => ?_) (fun c_60 => ?_)
          · skip
            refine lv_iconst (v := (-1)) hx hb dX1_beside_69 (by decide) ?_
            refine lv_goto (tgt := 79) hx hb dX1_beside_70 (by decide) ?_
            exact hR _ _ _ dX1_beside_79 rfl (by first | (simp [bes, c_50]; done) | (simp [bes, c_50, c_56]; done) | (simp [bes, c_50, c_56, c_60]; done) | (simp [bes, c_50, c_56, c_60, c_66]; done))
          · skip
            refine lv_iload_n hx hb dX1_beside_63 rfl (lv_at hl 0 rfl) ?_
            refine lv_bipush (v := 9) hx hb dX1_beside_64 (by decide) ?_
            refine lv_icmp_lt (tgt := 73) hx hb dX1_beside_66 (by decide) (fun c_66 => ?_) (fun c_66 => ?_)
            · skip
              refine lv_bipush (v := 12) hx hb dX1_beside_73 (by decide) ?_
              refine lv_iload_n hx hb dX1_beside_75 rfl (lv_at hl 0 rfl) ?_
              refine lv_imul hx hb dX1_beside_76 ?_
              refine lv_iload_n hx hb dX1_beside_77 rfl (lv_at hl 1 rfl) ?_
              refine lv_iadd hx hb dX1_beside_78 ?_
              exact hR _ _ _ dX1_beside_79 rfl (by first | (simp [bes, c_50]; done) | (simp [bes, c_50, c_56]; done) | (simp [bes, c_50, c_56, c_60]; done) | (simp [bes, c_50, c_56, c_60, c_66]; done))
            · skip
              refine lv_iconst (v := (-1)) hx hb dX1_beside_69 (by decide) ?_
              refine lv_goto (tgt := 79) hx hb dX1_beside_70 (by decide) ?_
              exact hR _ _ _ dX1_beside_79 rfl (by first | (simp [bes, c_50]; done) | (simp [bes, c_50, c_56]; done) | (simp [bes, c_50, c_56, c_60]; done) | (simp [bes, c_50, c_56, c_60, c_66]; done))

/-! what a patrol sees -/
def sDx (a b : Int32) : Int32 := rm12 b - rm12 a
def sDy (a b : Int32) : Int32 := b / 12 - a / 12
def sBy (a b : Int32) : Int32 := sg (sDx a b) + 12 * sg (sDy a b)
def sFar (a b : Int32) : Nat := cN (ab (sDx a b) + ab (sDy a b))
def sLim (t : Int32) : Int32 := if t = 0 then 1 else 4
/-- the way from a to b is free, but for its ends -/
def sWay (g : Nat → Int32) (a b : Int32) : Bool := !anyTo (fun k => !(g (cN (a + nI (k + 1) * sBy a b)) == 0)) (sFar a b - 1)
def seB (st : St) (p c : Nat) : Bool := decide (0 < st 2 c) && ((sDx (st 7 p) (st 1 c) == 0 || sDy (st 7 p) (st 1 c) == 0) && (!decide (sLim (st 3 c) < ab (sDx (st 7 p) (st 1 c) + sDy (st 7 p) (st 1 c))) && sWay (st 0) (st 7 p) (st 1 c)))
def sChk (a b : Nat) : Bool :=
  !((sDx (nI a) (nI b) == 0 || sDy (nI a) (nI b) == 0) && decide (ab (sDx (nI a) (nI b) + sDy (nI a) (nI b)) ≤ 4)) ||
  (decide (sFar (nI a) (nI b) ≤ 4) && (nI a + nI (sFar (nI a) (nI b)) * sBy (nI a) (nI b) == nI b && ((sBy (nI a) (nI b) == 0) == (sFar (nI a) (nI b) == 0) &&
    (ab (sDx (nI a) (nI b) + sDy (nI a) (nI b)) == ab (sDx (nI a) (nI b)) + ab (sDy (nI a) (nI b)) && (List.range 4).all fun k => !(decide (0 < k) && decide (k < sFar (nI a) (nI b))) || (!(nI a + nI k * sBy (nI a) (nI b) == nI b) && decide ((nI a + nI k * sBy (nI a) (nI b)).toBitVec.toNat < 108))))))
theorem sChk_all : ((List.range 108).all fun a => (List.range 108).all fun b => sChk a b) = true := by decide +kernel

