set_option maxRecDepth 100000
/-! statics, at the entry of any method -/
section ST3
variable {z : Zt} {p : Program} {s : State} {m : MethodId} {args : Array Value} {meth : Method} {c : Code} {cc : ByteArray} {nL : Nat} {own : String}
theorem CX.zDE (C : CX z p s m args meth c cc nL own) : va_Z "java/util/ArrayList" "DEFAULTCAPACITY_EMPTY_ELEMENTDATA" "[Ljava/lang/Object;" (.ref (zs z 0)) (AA z) s s.heap := C.2.1.gs.1.kept C.2.2.1.F
theorem CX.tDE (C : CX z p s m args meth c cc nL own) : va_T (.object "java/lang/Object") (zs z 0) 0 (fun _ => .null) (AA z) s s.heap := C.2.1.gs.2.1.kept C.2.2.1.F
theorem CX.zHI (C : CX z p s m args meth c cc nL own) : va_Z "java/lang/Integer$IntegerCache" "high" "I" (.int 127) (AA z) s s.heap := C.2.1.gs.2.2.1.kept C.2.2.1.F
theorem CX.zCA (C : CX z p s m args meth c cc nL own) : va_Z "java/lang/Integer$IntegerCache" "cache" "[Ljava/lang/Integer;" (.ref (zs z 1)) (AA z) s s.heap := C.2.1.gs.2.2.2.1.kept C.2.2.1.F
theorem CX.tCA (C : CX z p s m args meth c cc nL own) : va_T (.object "java/lang/Integer") (zs z 1) 256 (fun k => .ref (zi z k)) (AA z) s s.heap := C.2.1.gs.2.2.2.2.1.kept C.2.2.1.F
theorem CX.zIC (C : CX z p s m args meth c cc nL own) : vb_C (zi z) (AA z) s s.heap := C.2.1.gs.2.2.2.2.2.1.kept C.2.2.1.F
theorem CX.zBX (C : CX z p s m args meth c cc nL own) : va_Z "LaneCrowdsModel" "BY_X" "[I" (.ref (zs z 2)) (AA z) s s.heap := C.2.1.gs.2.2.2.2.2.2.1.kept C.2.2.1.F
theorem CX.tBX (C : CX z p s m args meth c cc nL own) : va_T .int (zs z 2) 4 (fun k => .int (byX k)) (AA z) s s.heap := C.2.1.gs.2.2.2.2.2.2.2.1.kept C.2.2.1.F
theorem CX.zBY (C : CX z p s m args meth c cc nL own) : va_Z "LaneCrowdsModel" "BY_Y" "[I" (.ref (zs z 3)) (AA z) s s.heap := C.2.1.gs.2.2.2.2.2.2.2.2.1.kept C.2.2.1.F
theorem CX.tBY (C : CX z p s m args meth c cc nL own) : va_T .int (zs z 3) 4 (fun k => .int (byY k)) (AA z) s s.heap := C.2.1.gs.2.2.2.2.2.2.2.2.2.1.kept C.2.2.1.F
theorem CX.zUS (C : CX z p s m args meth c cc nL own) : vx_Zq Bundle.tN "UNASSIGNED_STACK" Bundle.steD (AA z) s s.heap := C.2.1.gs.2.2.2.2.2.2.2.2.2.2.1.kept C.2.2.1.F
theorem CX.zSS (C : CX z p s m args meth c cc nL own) : vx_Zq Bundle.tN "SUPPRESSED_SENTINEL" Bundle.listD (AA z) s s.heap := C.2.1.gs.2.2.2.2.2.2.2.2.2.2.2.1.kept C.2.2.1.F
theorem CX.zMI (C : CX z p s m args meth c cc nL own) : va_Mi "[Ljava/lang/Object;" (zs z 4) s := C.2.1.gs.2.2.2.2.2.2.2.2.2.2.2.2.1
theorem CX.zDC (C : CX z p s m args meth c cc nL own) : va_Dc s := C.2.1.gs.2.2.2.2.2.2.2.2.2.2.2.2.2.1
theorem CX.recvI {H : Heap} {locs : List Loc} (C : CX z p s m args meth c cc nL own) (hS : va_S (AA z) s.heap H locs) {k : Nat} (hk : k < 256) : ∃ cell : Cell, H[zi z k]? = some cell ∧ cell.vm.isStatics = false ∧ s.vm.findClass "java/lang/Integer" = some cell.cls := by
  obtain ⟨cell, h1, h2, h3, h4⟩ := C.zIC.1 k hk
  exact ⟨cell, by rw [hS.2.1 _ (Array.getElem?_eq_some_iff.mp h1).1 h4]; exact h1, h2, h3⟩
theorem CX.recvQ {H : Heap} {a n : Nat} {f : Nat → Option Nat} (C : CX z p s m args meth c cc nL own) (hq : c1 z a (aQ z n f) H) : ∃ cell : Cell, H[a]? = some cell ∧ cell.vm.isStatics = false ∧ s.vm.findClass "[Ljava/lang/Object;" = some cell.cls :=
  ⟨_, hq, rfl, va_nmO (C.2.1.1.2 1 _ rfl).2 (by decide)⟩
/-- what may stand in a list -/
def El (z : Zt) (H : Heap) (a : Nat) : Prop := (∃ fs, c1 z a (.inr (5, fs)) H) ∨ (∃ fs, c1 z a (.inr (6, fs)) H) ∨ ∃ k, k < 256 ∧ a = zi z k
theorem El.any {H : Heap} {locs : List Loc} {a : Nat} (h : El z H a) (C : CX z p s m args meth c cc nL own) (hS : va_S (AA z) s.heap H locs) : va_Any "java/lang/Object" s H a := by
  rcases h with ⟨fs, h⟩ | ⟨fs, h⟩ | ⟨k, hk, rfl⟩
  · exact va_rAny C.2.1.1 h.P (q0 := 0) rfl (r := (RX5, TX5, 5)) rfl (vb_asgC (C := RX5) (nc_18 C.2.1))
  · exact va_rAny C.2.1.1 h.P (q0 := 0) rfl (r := (RX6, TX6, 3)) rfl (vb_asgC (C := RX6) (nc_19 C.2.1))
  · obtain ⟨cell, h1, h2, h3⟩ := C.recvI hS hk
    obtain ⟨kC, hkC, -⟩ := Vm.findClass_spec h3
    exact ⟨cell, h1, h2, ⟨kC, hkC⟩, fun comp h => vb_asgC (C := "java/lang/Integer") (nc_4 C.2.1) comp _ h h3⟩
end ST3
section GT3
variable {p : Program} {l : Launch} {e : Env} {R : Room} {s : State} {m : MethodId} {args : Array Value} {below : List Frame} {meth : Method} {c : Code} {H : Heap} {locs : List Loc} {cells slots : Nat} {Q : State → Prop}
variable {cc : ByteArray} {pc : Nat} {ls : Array Slot} {rest : List Value} {z : Zt} {a : Nat} {nL : Nat} {own : String}
theorem g_talen {N t : Nat} {f : Nat → Value} {ty : FieldType} (C : CX z p s m args meth c cc nL own) (hT : va_T ty t N f (AA z) s s.heap) (hS : va_S (AA z) s.heap H locs) (hdg : decode cc pc = .ok (.arraylength, 1))
    (kk : W p l e R s m args below meth c H locs cells slots Q (F0 m (pc + 1) ls (.int (nI N) :: rest))) : W p l e R s m args below meth c H locs cells slots Q (F0 m pc ls (.ref t :: rest)) := by
  obtain ⟨cell, h1, h2, h3, h4, h5, h6, h7⟩ := hT
  exact W.alen C.1.1 C.1.2.1 (by rw [hS.2.1 t (Array.getElem?_eq_some_iff.mp h1).1 h7]; exact h1) h2 h5 rfl rfl hdg kk
theorem g_tiald {N t : Nat} {f : Nat → Value} {i : Int32} {v : Value} (C : CX z p s m args meth c cc nL own) (hT : va_T .int t N f (AA z) s s.heap) (hS : va_S (AA z) s.heap H locs) (hin : vp_in i N) (hv : f i.toNatClampNeg = v) (hdg : decode cc pc = .ok (.iaload, 1))
    (kk : W p l e R s m args below meth c H locs cells slots Q (F0 m (pc + 1) ls (v :: rest))) : W p l e R s m args below meth c H locs cells slots Q (F0 m pc ls (.int i :: .ref t :: rest)) := by
  obtain ⟨cell, h1, h2, h3, h4, h5, h6, h7⟩ := hT
  have hlt : i.toNatClampNeg < N := Nat.not_le.mp fun q => hin (Or.inr q)
  refine W.iald C.1.1 C.1.2.1 (by rw [hS.2.1 t (Array.getElem?_eq_some_iff.mp h1).1 h7]; exact h1) h2 h3 (fun q => ?_) (by rw [h6 _ hlt, hv]) rfl rfl hdg kk
  rcases q with q | q
  · exact hin (Or.inl q)
  · exact hin (Or.inr (Nat.le_trans h4 q))
end GT3
theorem vb_c_nI (j : Nat) : vb_c (j + 128) = nI j := by
  unfold vb_c nI
  rw [show (128 : Int32) = Int32.ofNat 128 from rfl, Int32.ofNat_add]
  grind
def bI (b : Bool) : Int32 := if b then 1 else 0
theorem bI_n (b : Bool) : narrow .boolean (.int (bI b)) = .int (bI b) := by cases b <;> rfl
def mx (x y : Int32) : Int32 := if x < y then y else x
def mn (x y : Int32) : Int32 := if y < x then y else x
def ab (x : Int32) : Int32 := if 0 ≤ x then x else -x
def sg (x : Int32) : Int32 := (x >>> (31 &&& 31)) ||| ((-x).toUInt32 >>> ((31 : Int32).toUInt32 &&& Int32.toUInt32 31)).toInt32
/-- a list: its object l, its array e (the shared empty one where cap = 0) -/
def Ls (z : Zt) (l e : Nat) (md : Int32) (n cap : Nat) (f : Nat → Option Nat) (H : Heap) : Prop :=
  c1 z l (.inr (2, [.int md, .ref e, .int (nI n)])) H ∧ n ≤ cap ∧ ((cap = 0 ∧ e = zs z 0) ∨ (0 < cap ∧ c1 z e (aQ z cap f) H))
def gN (cap : Nat) : Nat := if cap = 0 then 10 else cap + (if cap / 2 ≤ 1 then 1 else cap / 2)
theorem mq_max : Cond.code Lib.Math.max.name Lib.Math.max.code 2 (some .int) ∈ lw_all := q203
theorem mq_min : Cond.code Lib.Math.min.name Lib.Math.min.code 2 (some .int) ∈ lw_all := q147
theorem mq_abs : Cond.code Lib.Math.abs.name Lib.Math.abs.code 1 (some .int) ∈ lw_all := q235
section GRL
variable {p : Program} {l : Launch} {e : Env} {s : State} {m : MethodId} {args : Array Value} {below : List Frame} {meth : Method} {c : Code} {H : Heap} {locs : List Loc} {cells slots : Nat} {Q : State → Prop}
variable {cc : ByteArray} {pc : Nat} {ls : Array Slot} {rest : List Value} {z : Zt} {a : Nat} {nL : Nat} {own : String} {H0 : Heap} {k0 mc0 ms0 : Nat}
theorem g_max {index : Nat} {x y : Int32} (C : CX z p s m args meth c cc nL own) (hlink : (Cond.methodLink own index Lib.Math.max.name).before args s = true) (hk : 1 ≤ k0) (hsz : ls.size = nL) (hW : (rest.map fun v => v.category).sum ≤ 8) (hc : cells + 0 ≤ mc0) (hs : slots + 0 ≤ ms0) (hdg : decode cc pc = .ok (.invokestatic index, 3))
    (kk : W p l e (RL k0 mc0 ms0) s m args below meth c H locs cells slots Q (F0 m (pc + 3) ls (.int (mx x y) :: rest))) : W p l e (RL k0 mc0 ms0) s m args below meth c H locs cells slots Q (F0 m pc ls (.int y :: .int x :: rest)) :=
  va_mmax C.1.1 C.1.2.1 (C.1.2.2.1.trans hsz.symm) C.1.2.2.2.1 hlink (C.1.2.2.2.2 _ q202) (C.1.2.2.2.2 _ q56) (C.1.2.2.2.2 _ mq_max) hk (by show _ + 13 ≤ 40 * k0; omega) hc hs hdg kk
theorem g_min {index : Nat} {x y : Int32} (C : CX z p s m args meth c cc nL own) (hlink : (Cond.methodLink own index Lib.Math.min.name).before args s = true) (hk : 1 ≤ k0) (hsz : ls.size = nL) (hW : (rest.map fun v => v.category).sum ≤ 8) (hc : cells + 0 ≤ mc0) (hs : slots + 0 ≤ ms0) (hdg : decode cc pc = .ok (.invokestatic index, 3))
    (kk : W p l e (RL k0 mc0 ms0) s m args below meth c H locs cells slots Q (F0 m (pc + 3) ls (.int (mn x y) :: rest))) : W p l e (RL k0 mc0 ms0) s m args below meth c H locs cells slots Q (F0 m pc ls (.int y :: .int x :: rest)) :=
  va_mmin C.1.1 C.1.2.1 (C.1.2.2.1.trans hsz.symm) C.1.2.2.2.1 hlink (C.1.2.2.2.2 _ q146) (C.1.2.2.2.2 _ q56) (C.1.2.2.2.2 _ mq_min) hk (by show _ + 13 ≤ 40 * k0; omega) hc hs hdg kk
theorem g_abs {index : Nat} {x : Int32} (C : CX z p s m args meth c cc nL own) (hlink : (Cond.methodLink own index Lib.Math.abs.name).before args s = true) (hk : 1 ≤ k0) (hsz : ls.size = nL) (hW : (rest.map fun v => v.category).sum ≤ 8) (hc : cells + 0 ≤ mc0) (hs : slots + 0 ≤ ms0) (hdg : decode cc pc = .ok (.invokestatic index, 3))
    (kk : W p l e (RL k0 mc0 ms0) s m args below meth c H locs cells slots Q (F0 m (pc + 3) ls (.int (ab x) :: rest))) : W p l e (RL k0 mc0 ms0) s m args below meth c H locs cells slots Q (F0 m pc ls (.int x :: rest)) :=
  va_mabs C.1.1 C.1.2.1 (C.1.2.2.1.trans hsz.symm) C.1.2.2.2.1 hlink (C.1.2.2.2.2 _ q234) (C.1.2.2.2.2 _ q56) (C.1.2.2.2.2 _ mq_abs) hk (by show _ + 13 ≤ 40 * k0; omega) hc hs hdg kk
theorem r_newi {n : Int32} {N : Nat} (Cx : CX z p s m args meth c cc nL own) (hn : ¬ n < 0) (hN : n.toNatClampNeg = N) (hb : N ≤ 1000) (hS : va_S (AA z) H0 H locs) (hcells : cells + 1 ≤ mc0) (hslots : slots + N ≤ ms0) (hdg : decode cc pc = .ok (.newarray .int, 2))
    (kk : ∀ H1 : Heap, New z (aI z N (fun _ => 0)) H H1 → va_S (AA z) H0 H1 locs → W p l e (RL k0 mc0 ms0) s m args below meth c H1 locs (cells + 1) (slots + N) Q (F0 m (pc + 2) ls (.ref H.size :: rest))) : W p l e (RL k0 mc0 ms0) s m args below meth c H locs cells slots Q (F0 m pc ls (.int n :: rest)) := g_newi Cx hn hN hb hS hcells hslots hdg kk
theorem r_newl {n : Int32} {N : Nat} (Cx : CX z p s m args meth c cc nL own) (hn : ¬ n < 0) (hN : n.toNatClampNeg = N) (hb : N ≤ 1000) (hS : va_S (AA z) H0 H locs) (hcells : cells + 1 ≤ mc0) (hslots : slots + N ≤ ms0) (hdg : decode cc pc = .ok (.newarray .long, 2))
    (kk : ∀ H1 : Heap, New z (aL z N (fun _ => 0)) H H1 → va_S (AA z) H0 H1 locs → W p l e (RL k0 mc0 ms0) s m args below meth c H1 locs (cells + 1) (slots + N) Q (F0 m (pc + 2) ls (.ref H.size :: rest))) : W p l e (RL k0 mc0 ms0) s m args below meth c H locs cells slots Q (F0 m pc ls (.int n :: rest)) := g_newl Cx hn hN hb hS hcells hslots hdg kk
theorem r_newq {n : Int32} {N index : Nat} (Cx : CX z p s m args meth c cc nL own) (hclink : (Cond.classLink own index "java/lang/Object").before args s = true) (hn : ¬ n < 0) (hN : n.toNatClampNeg = N) (hb : N ≤ 1000) (hS : va_S (AA z) H0 H locs) (hcells : cells + 1 ≤ mc0) (hslots : slots + N ≤ ms0) (hdg : decode cc pc = .ok (.anewarray index, 3))
    (kk : ∀ H1 : Heap, New z (aQ z N (fun _ => none)) H H1 → va_S (AA z) H0 H1 locs → W p l e (RL k0 mc0 ms0) s m args below meth c H1 locs (cells + 1) (slots + N) Q (F0 m (pc + 3) ls (.ref H.size :: rest))) : W p l e (RL k0 mc0 ms0) s m args below meth c H locs cells slots Q (F0 m pc ls (.int n :: rest)) := g_newq Cx hclink hn hN hb hS hcells hslots hdg kk
theorem r_new {C : String} {T : u_T} {N ci index : Nat} {fs : List Value} (Cx : CX z p s m args meth c cc nL own) (hin : ∀ w ∈ u_ws C T N, w ∈ lw_all) (ty : Nat → FieldType) (hty : ∀ k, k < N → parseFieldDescriptor (T k).2.2.1 = some (ty k)) (hcl : (Cond.classLink own index C).before args s = true) (hinst : (Cond.instantiable C N).before args s = true) (hini : (Cond.initialized C).before args s = true)
    (hc : clA[ci]? = some (C, T, N)) (hfs : ∀ j, j < N → defaultValue (ty j) = vp_V fs j) (hS : va_S (AA z) H0 H locs) (hcells : cells + 1 ≤ mc0) (hslots : slots + N ≤ ms0) (hdg : decode cc pc = .ok (.new index, 3))
    (kk : ∀ H1 : Heap, New z (.inr (ci, fs)) H H1 → va_S (AA z) H0 H1 locs → W p l e (RL k0 mc0 ms0) s m args below meth c H1 locs (cells + 1) (slots + N) Q (F0 m (pc + 3) ls (.ref H.size :: rest))) : W p l e (RL k0 mc0 ms0) s m args below meth c H locs cells slots Q (F0 m pc ls rest) := g_new Cx hin ty hty hcl hinst hini hc hfs hS hcells hslots hdg kk
theorem r_objInit {idx : Nat} (C : CX z p s m args meth c cc nL own) (hlink : (Cond.methodLink own idx Lib.objectInit).before args s = true) (hk : 1 ≤ k0) (hsz : ls.size = nL) (hW : (rest.map fun v => v.category).sum ≤ 8) (hd : decode cc pc = .ok (.invokespecial idx, 3))
    (kk : W p l e (RL k0 mc0 ms0) s m args below meth c H locs cells slots Q (F0 m (pc + 3) ls rest)) : W p l e (RL k0 mc0 ms0) s m args below meth c H locs cells slots Q (F0 m pc ls (.ref a :: rest)) :=
  W.objInit C.1.1 C.1.2.1 C.1.2.2.2.1 hlink (C.1.2.2.2.2 _ q69) (C.1.2.2.2.2 _ q70) rfl (hsz.trans C.1.2.2.1.symm) rfl hd hk (by show 2 * 0 + _ + 12 ≤ 40 * k0; omega) kk
end GRL
