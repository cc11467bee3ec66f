set_option maxRecDepth 100000
/-! the ambient: classes, array classes, the heap at the law's entry, cached Integers, statics -/
abbrev clA : List vw_C := [(RX1, TX1, 1), (RX2, TX2, 4), (RJ2, TJ2, 3), (RX3, TX3, 9), (RX4, TX4, 11), (RX5, TX5, 5), (RX6, TX6, 3)]
abbrev Zt : Type := va_G × (Nat → ClassId) × Heap × (Nat → Nat) × (Nat → Nat)
def zc (z : Zt) (k : Nat) : ClassId := z.2.1 k
def zH (z : Zt) : Heap := z.2.2.1
def zi (z : Zt) (k : Nat) : Nat := z.2.2.2.1 k
def zs (z : Zt) (k : Nat) : Nat := z.2.2.2.2 k
def AA (z : Zt) : Nat → Prop := fun q => (zH z).size ≤ q
def HA (z : Zt) (H : Heap) : Prop := (zH z).size ≤ H.size ∧ ∀ q : Nat, q < (zH z).size → H[q]? = (zH z)[q]?
abbrev tyA (z : Zt) : List (ClassId × FieldType) := [(zc z 0, .int), (zc z 1, .object "java/lang/Object"), (zc z 2, .long)]
def nwF : List (String × Nat × String × String × String × String) := [("LaneCrowds", 153, "LaneCrowds$Quarter", "step", "I", "LaneCrowds"), ("LaneCrowds", 47, "LaneCrowds$Quarter", "cells", "[I", "LaneCrowds"), ("LaneCrowds", 65, "LaneCrowds$Quarter", "crowds", "Ljava/util/ArrayList;", "LaneCrowds"), ("LaneCrowds", 104, "LaneCrowds$Quarter", "patrols", "Ljava/util/ArrayList;", "LaneCrowds"), ("LaneCrowds$Quarter", 63, "LaneCrowds$Crowd", "cell", "I", "LaneCrowds"), ("LaneCrowds", 112, "LaneCrowds$Crowd", "cell", "I", "LaneCrowds"), ("LaneCrowds$Quarter", 79, "LaneCrowds$Crowd", "people", "I", "LaneCrowds"), ("LaneCrowds", 116, "LaneCrowds$Crowd", "people", "I", "LaneCrowds"), ("LaneCrowds", 100, "LaneCrowds$Crowd", "burns", "Z", "LaneCrowds"), ("LaneCrowds$Quarter", 106, "LaneCrowds$Crowd", "missed", "I", "LaneCrowds"), ("LaneCrowds", 126, "LaneCrowds$Crowd", "missed", "I", "LaneCrowds"), ("LaneCrowds$Quarter", 85, "LaneCrowds$Crowd", "orders", "Ljava/util/ArrayList;", "LaneCrowds"), ("LaneCrowds", 91, "LaneCrowds$Crowd", "orders", "Ljava/util/ArrayList;", "LaneCrowds"), ("LaneCrowds$Quarter", 66, "LaneCrowds$Patrol", "cell", "I", "LaneCrowds"), ("LaneCrowds", 141, "LaneCrowds$Patrol", "cell", "I", "LaneCrowds"), ("LaneCrowdsModel", 112, "LaneCrowdsModel$State", "step", "I", "LaneCrowdsModel"), ("LaneCrowdsModel", 62, "LaneCrowdsModel$State", "cells", "[I", "LaneCrowdsModel"), ("LaneCrowdsModel", 69, "LaneCrowdsModel$State", "at", "[I", "LaneCrowdsModel"), ("LaneCrowdsModel", 72, "LaneCrowdsModel$State", "people", "[I", "LaneCrowdsModel"), ("LaneCrowdsModel", 75, "LaneCrowdsModel$State", "torch", "[I", "LaneCrowdsModel"), ("LaneCrowdsModel", 81, "LaneCrowdsModel$State", "many", "[I", "LaneCrowdsModel"), ("LaneCrowdsModel", 84, "LaneCrowdsModel$State", "orders", "[I", "LaneCrowdsModel"), ("LaneCrowdsModel", 90, "LaneCrowdsModel$State", "missed", "[I", "LaneCrowdsModel"), ("LaneCrowdsModel", 87, "LaneCrowdsModel$State", "post", "[I", "LaneCrowdsModel"), ("LaneCrowdsModel", 103, "LaneCrowdsModel$State", "next", "[I", "LaneCrowdsModel"), ("LaneCrowdsModel$State", 57, "LaneCrowdsModel", "crowds", "I", "LaneCrowdsModel"), ("LaneCrowdsModel$State", 60, "LaneCrowdsModel", "patrols", "I", "LaneCrowdsModel"), ("LaneCrowdsModel$State", 91, "LaneCrowdsModel", "length", "[I", "LaneCrowdsModel"), ("LaneCrowdsModel$State", 88, "LaneCrowdsModel", "round", "[I", "LaneCrowdsModel"), ("LaneCrowdsModel$State", 121, "LaneCrowdsModel", "few", "[I", "LaneCrowdsModel")]
def nwM : List (String × Nat × MethodName × String) := [("LaneCrowds", 38, ⟨"LaneCrowds$Quarter", "<init>", "()V"⟩, "LaneCrowds"), ("LaneCrowds$Quarter", 67, ⟨"LaneCrowds", "beside", "(II)I"⟩, "LaneCrowds"), ("LaneCrowdsModel", 24, ⟨"LaneCrowdsModel$State", "<init>", "(LLaneCrowdsModel;)V"⟩, "LaneCrowdsModel"), ("LaneCrowdsModel$State", 70, ⟨"LaneCrowdsModel", "beside", "(II)I"⟩, "LaneCrowdsModel")]
def nwC : List (String × String) := [("java/lang/IllegalStateException", "java/lang/IllegalStateException"), ("java/lang/IllegalStateException", "java/lang/Object"), ("java/lang/IllegalArgumentException", "java/lang/IllegalArgumentException"), ("java/lang/IllegalArgumentException", "java/lang/Object"), ("java/lang/Integer", "java/lang/Object"), ("java/util/ArrayList", "java/util/List"), ("java/util/ArrayList", "java/lang/Object"), ("java/lang/Throwable", "java/lang/Object"), ("java/lang/IndexOutOfBoundsException", "java/lang/IndexOutOfBoundsException"), ("java/lang/IndexOutOfBoundsException", "java/lang/Object"), ("java/lang/ArrayIndexOutOfBoundsException", "java/lang/ArrayIndexOutOfBoundsException"), ("java/lang/ArrayIndexOutOfBoundsException", "java/lang/IndexOutOfBoundsException"), ("java/lang/ArrayIndexOutOfBoundsException", "java/lang/Object"), ("java/lang/String", "java/lang/Object"), ("LaneCrowds", "java/lang/Object"), ("LaneCrowds$Quarter", "java/lang/Object"), ("LaneCrowdsModel", "java/lang/Object"), ("LaneCrowdsModel$State", "java/lang/Object"), ("LaneCrowds$Crowd", "java/lang/Object"), ("LaneCrowds$Patrol", "java/lang/Object"), ("[B", "java/lang/Object"), ("[I", "java/lang/Object"), ("[J", "java/lang/Object"), ("[Ljava/lang/Object;", "java/lang/Object")]
def nwN : List (String × String) := [("LaneCrowds", "java/lang/IndexOutOfBoundsException"), ("LaneCrowds$Quarter", "java/lang/IndexOutOfBoundsException"), ("java/util/ArrayList", "java/lang/IndexOutOfBoundsException"), ("LaneCrowdsModel", "java/lang/IndexOutOfBoundsException"), ("LaneCrowdsModel$State", "java/lang/IndexOutOfBoundsException"), ("java/lang/IllegalStateException", "java/lang/IndexOutOfBoundsException"), ("java/lang/IllegalArgumentException", "java/lang/IndexOutOfBoundsException"), ("LaneCrowds$Crowd", "java/lang/IndexOutOfBoundsException"), ("java/lang/Integer", "java/lang/IndexOutOfBoundsException"), ("LaneCrowds$Patrol", "java/lang/IndexOutOfBoundsException"), ("LaneCrowds", "java/lang/IllegalStateException"), ("LaneCrowds$Quarter", "java/lang/IllegalStateException"), ("java/util/ArrayList", "java/lang/IllegalStateException"), ("LaneCrowdsModel", "java/lang/IllegalStateException"), ("LaneCrowdsModel$State", "java/lang/IllegalStateException"), ("java/lang/ArrayIndexOutOfBoundsException", "java/lang/IllegalStateException"), ("java/lang/IndexOutOfBoundsException", "java/lang/IllegalStateException"), ("java/lang/IllegalArgumentException", "java/lang/IllegalStateException"), ("LaneCrowds$Crowd", "java/lang/IllegalStateException"), ("java/lang/Integer", "java/lang/IllegalStateException"), ("LaneCrowds$Patrol", "java/lang/IllegalStateException"), ("LaneCrowds", "java/lang/IllegalArgumentException"), ("LaneCrowds$Quarter", "java/lang/IllegalArgumentException"), ("java/util/ArrayList", "java/lang/IllegalArgumentException"), ("LaneCrowdsModel", "java/lang/IllegalArgumentException"), ("LaneCrowdsModel$State", "java/lang/IllegalArgumentException"), ("java/lang/ArrayIndexOutOfBoundsException", "java/lang/IllegalArgumentException"), ("java/lang/IndexOutOfBoundsException", "java/lang/IllegalArgumentException"), ("java/lang/IllegalStateException", "java/lang/IllegalArgumentException"), ("LaneCrowds$Crowd", "java/lang/IllegalArgumentException"), ("java/lang/Integer", "java/lang/IllegalArgumentException"), ("LaneCrowds$Patrol", "java/lang/IllegalArgumentException")]
def byX (k : Nat) : Int32 := if k = 1 then 1 else if k = 3 then -1 else 0
def byY (k : Nat) : Int32 := if k = 0 then -1 else if k = 2 then 1 else 0
/-- statics that nobody writes, as they stand in the heap at the law's entry -/
def GS (z : Zt) (U : State) : Prop :=
  va_Z "java/util/ArrayList" "DEFAULTCAPACITY_EMPTY_ELEMENTDATA" "[Ljava/lang/Object;" (.ref (zs z 0)) (AA z) U (zH z) ∧
  va_T (.object "java/lang/Object") (zs z 0) 0 (fun _ => .null) (AA z) U (zH z) ∧
  va_Z "java/lang/Integer$IntegerCache" "high" "I" (.int 127) (AA z) U (zH z) ∧
  va_Z "java/lang/Integer$IntegerCache" "cache" "[Ljava/lang/Integer;" (.ref (zs z 1)) (AA z) U (zH z) ∧
  va_T (.object "java/lang/Integer") (zs z 1) 256 (fun k => .ref (zi z k)) (AA z) U (zH z) ∧
  vb_C (zi z) (AA z) U (zH z) ∧
  va_Z "LaneCrowdsModel" "BY_X" "[I" (.ref (zs z 2)) (AA z) U (zH z) ∧
  va_T .int (zs z 2) 4 (fun k => .int (byX k)) (AA z) U (zH z) ∧
  va_Z "LaneCrowdsModel" "BY_Y" "[I" (.ref (zs z 3)) (AA z) U (zH z) ∧
  va_T .int (zs z 3) 4 (fun k => .int (byY k)) (AA z) U (zH z) ∧
  vx_Zq Bundle.tN "UNASSIGNED_STACK" Bundle.steD (AA z) U (zH z) ∧
  vx_Zq Bundle.tN "SUPPRESSED_SENTINEL" Bundle.listD (AA z) U (zH z) ∧
  va_Mi "[Ljava/lang/Object;" (zs z 4) U ∧ va_Dc U ∧
  (∀ t ∈ nwN, va_Nc t.1 t.2 U)
abbrev x_lsize : MethodName := ⟨"java/util/List", "size", "()I"⟩
abbrev x_lget : MethodName := ⟨"java/util/List", "get", "(I)Ljava/lang/Object;"⟩
def dcl : List MethodName := [⟨"java/lang/RuntimeException", "<init>", "()V"⟩, ⟨"java/lang/Exception", "<init>", "()V"⟩, ⟨"java/lang/Throwable", "<init>", "()V"⟩]
/-- what all methods know of the tables -/
def GV (z : Zt) (U : State) : Prop :=
  va_K z.1 clA (tyA z) U ∧ (∀ t ∈ nwF, va_Nw (.fieldLinkNest t.1 t.2.1 t.2.2.1 t.2.2.2.1 t.2.2.2.2.1 t.2.2.2.2.2) U) ∧ (∀ t ∈ nwM, va_Nw (.methodLinkNest t.1 t.2.1 t.2.2.1 t.2.2.2) U) ∧ (∀ t ∈ nwC, va_Nw (.castable t.1 t.2) U) ∧
  va_AO "java/lang/Object" U ∧ va_Fw "java/util/ArrayList" x_lsize yJ2_size U ∧ va_Fw "java/util/ArrayList" x_lget yJ2_get U ∧ GS z U ∧ ∀ y ∈ dcl, va_Nw (.declares y) U
theorem GS.moved {z : Zt} {u U : State} (hvm : u.vm.Alike U.vm) (h : GS z u) : GS z U := by
  obtain ⟨h1, h2, h3, h4, h5, h6, h7, h8, h9, h10, h11, h12, h13, h14, h15⟩ := h
  exact ⟨h1.moved hvm, h2.moved hvm, h3.moved hvm, h4.moved hvm, h5.moved hvm, h6.moved hvm, h7.moved hvm, h8.moved hvm, h9.moved hvm, h10.moved hvm, h11.moved hvm, h12.moved hvm, h13.moved hvm, h14.moved hvm, fun t ht => (h15 t ht).moved hvm⟩
theorem GV.warm {z : Zt} {s U : State} (hW : s.WarmedH U.vm) (h : GV z s) : GV z U := by
  obtain ⟨h1, h2, h3, h4, h5, h6, h7, h8, h9⟩ := h
  exact ⟨h1.moved hW.alike, fun t ht => va_Nw.warmF hW (h2 t ht), fun t ht => va_Nw.warmM hW (h3 t ht), fun t ht => va_Nw.warmC hW (h4 t ht), h5.moved hW.alike, h6.moved ⟨by decide, by decide⟩ hW.alike, h7.moved ⟨by decide, by decide⟩ hW.alike, h8.moved hW.alike, fun y hy => va_Nw.warmD hW (h9 y hy)⟩
theorem GV.nF {z : Zt} {U : State} (h : GV z U) (i : Nat) {t : String × Nat × String × String × String × String} (ht : nwF[i]? = some t) : va_Nw (.fieldLinkNest t.1 t.2.1 t.2.2.1 t.2.2.2.1 t.2.2.2.2.1 t.2.2.2.2.2) U := h.2.1 t (List.mem_of_getElem? ht)
theorem GV.nM {z : Zt} {U : State} (h : GV z U) (i : Nat) {t : String × Nat × MethodName × String} (ht : nwM[i]? = some t) : va_Nw (.methodLinkNest t.1 t.2.1 t.2.2.1 t.2.2.2) U := h.2.2.1 t (List.mem_of_getElem? ht)
theorem GV.nC {z : Zt} {U : State} (h : GV z U) (i : Nat) {t : String × String} (ht : nwC[i]? = some t) : va_Nw (.castable t.1 t.2) U := h.2.2.2.1 t (List.mem_of_getElem? ht)
theorem GV.gs {z : Zt} {U : State} (h : GV z U) : GS z U := h.2.2.2.2.2.2.2.1
theorem HA.S {z : Zt} {H0 H : Heap} {locs : List Loc} (h : HA z H0) (hS : va_S (AA z) H0 H locs) : HA z H := ⟨Nat.le_trans h.1 hS.1, fun q hq => (hS.2.1 q (Nat.lt_of_lt_of_le hq h.1) (fun c => absurd c (Nat.not_le.mpr hq))).trans (h.2 q hq)⟩
theorem HA.F {z : Zt} {H : Heap} (h : HA z H) : ∀ a : Nat, a < (zH z).size → ¬ AA z a → H[a]? = (zH z)[a]? := fun a ha _ => h.2 a ha
/-- one cell -/
def c1 (z : Zt) (a : Nat) (e : va_E) (H : Heap) : Prop := va_at z.1 clA (a, e) H
/-- H1 is H with the cell a changed to e -/
def Up (z : Zt) (a : Nat) (e : va_E) (H H1 : Heap) : Prop := c1 z a e H1 ∧ H1.size = H.size ∧ ∀ q : Nat, q ≠ a → H1[q]? = H[q]?
/-- H1 is H with new cells -/
def Ext (H H1 : Heap) : Prop := H.size ≤ H1.size ∧ ∀ q : Nat, q < H.size → H1[q]? = H[q]?
theorem Ext.rf {H : Heap} : Ext H H := ⟨Nat.le_refl _, fun _ _ => rfl⟩
theorem Ext.tr {H H1 H2 : Heap} (h : Ext H H1) (g : Ext H1 H2) : Ext H H2 := ⟨Nat.le_trans h.1 g.1, fun q hq => (g.2 q (Nat.lt_of_lt_of_le hq h.1)).trans (h.2 q hq)⟩
theorem c1.P {z : Zt} {a : Nat} {e : va_E} {H : Heap} (h : c1 z a e H) : va_P z.1 clA [(a, e)] H := by
  intro k q hk
  match k, hk with
  | 0, hk => cases hk; exact h
  | k + 1, hk => simp at hk
theorem c1.lt {z : Zt} {a : Nat} {e : va_E} {H : Heap} (h : c1 z a e H) : a < H.size := va_at.lt h
theorem c1.kept {z : Zt} {a : Nat} {e : va_E} {H H1 : Heap} (h : c1 z a e H) (hq : H1[a]? = H[a]?) : c1 z a e H1 := va_at.kept h hq
theorem c1.ext {z : Zt} {a : Nat} {e : va_E} {H H1 : Heap} (h : c1 z a e H) (g : Ext H H1) : c1 z a e H1 := h.kept (g.2 a h.lt)
theorem c1.up {z : Zt} {a b : Nat} {e e' : va_E} {H H1 : Heap} (h : c1 z a e H) (g : Up z b e' H H1) (hab : a ≠ b) : c1 z a e H1 := h.kept (g.2.2 a hab)
theorem c1.recv {z : Zt} {s : State} {H : Heap} {a ci : Nat} {q : vw_C} {fs : List Value} (h : c1 z a (.inr (ci, fs)) H) (hG : GV z s) (hc : clA[ci]? = some q) : ∃ cell : Cell, H[a]? = some cell ∧ cell.vm.isStatics = false ∧ s.vm.findClass q.1 = some cell.cls := va_recv hG.1 h.P hc (q0 := 0) rfl
theorem Up.rm {z : Zt} {H0 H H1 : Heap} {locs : List Loc} {a k : Nat} {e : va_E} (h : va_S (AA z) H0 H locs) (g : Up z a e H H1) (ha : AA z a) : va_S (AA z) H0 H1 (locs ++ [⟨a, k⟩]) := h.put g.2.1 g.2.2 ha
/-- what a walk has at hand -/
def CX (z : Zt) (p : Program) (s : State) (m : MethodId) (args : Array Value) (meth : Method) (c : Code) (cc : ByteArray) (nL : Nat) (own : String) : Prop :=
  (p.tables.exec = Jvm.exec ∧ c.code = cc ∧ c.maxLocals = nL ∧ s.vm.findClass own = some m.cls ∧ ∀ w ∈ lw_all, w.before args s = true) ∧ GV z s ∧ HA z s.heap ∧ meth.locks = false
section GRW
variable {p : Program} {l : Launch} {e : Env} {R : Room} {s : State} {m : MethodId} {args : Array Value} {below : List Frame} {meth : Method} {c : Code} {H : Heap} {locs : List Loc} {cells slots : Nat} {Q : State → Prop}
variable {cc : ByteArray} {pc : Nat} {ls : Array Slot} {rest : List Value} {z : Zt} {a : Nat} {nL : Nat} {own : String} {H0 : Heap}
theorem g_put {ref C : String} {T : u_T} {N ci index : Nat} {fs : List Value} (Cx : CX z p s m args meth c cc nL own) (hin : ∀ w ∈ u_ws C T N, w ∈ lw_all) (ty0 : Nat → FieldType) (hty : ∀ k, k < N → parseFieldDescriptor (T k).2.2.1 = some (ty0 k)) (hnm : ∀ a, a < N → ∀ b, b < N → a ≠ b → (T a).2.1 ≠ (T b).2.1) (he : c1 z a (.inr (ci, fs)) H) (hc : clA[ci]? = some (C, T, N)) (k : Nat) (hk : k < N) (hlink : (Cond.fieldLink own index ref (T k).2.1 (T k).2.2.1).before args s = true) (hsame : ∀ x, s.fieldFound? (T k).1 (T k).2.1 (T k).2.2.1 = some x → s.fieldFound? ref (T k).2.1 (T k).2.2.1 = some x) (hfin : (T k).2.2.2 = false) {ty : FieldType} {v : Value} (hd : parseFieldDescriptor (T k).2.2.1 = some ty) (hn : narrow ty v = v) (hfit : fits ty v = true) (hl : k < fs.length) (hS0 : va_S (AA z) H0 H locs) (hA : AA z a)
    (hdg : decode cc pc = .ok (.putfield index, 3)) (kk : ∀ (H1 : Heap) (locs1 : List Loc), Up z a (.inr (ci, fs.set k v)) H H1 → va_S (AA z) H0 H1 locs1 → W p l e R s m args below meth c H1 locs1 cells slots Q (F0 m (pc + 3) ls rest)) : W p l e R s m args below meth c H locs cells slots Q (F0 m pc ls (v :: .ref a :: rest)) := by
  have hexec := Cx.1.1
  have hb := Cx.1.2.1
  have hown := Cx.1.2.2.2.1
  have hts := Cx.1.2.2.2.2
  have hK := Cx.2.1.1
  have hap := va_apart (own := own) hts hin ty0 hty hnm hK hc
  obtain ⟨r, h1, cell, q1, q2, q3, q4⟩ := he
  have hr : r = (C, T, N) := Option.some.inj (h1.symm.trans hc)
  subst hr
  obtain ⟨hS, hfc, kC, hkC, hkind⟩ := hK.1 ci _ hc
  obtain ⟨cf, kf, fi, f, hi, hsl⟩ := hS k hk
  have hlay := hts _ (hin _ (u_in_lay hk))
  unfold u_lay at hlay
  rw [if_neg (by rw [hfin]; decide)] at hlay
  have hst := (u_facts hfc hkC (u_lays hts hin hk) hi).1
  have h6 := u_store hfc hkC hkind hlay hi hd hn hfit
  refine W.putK hexec hb (f := f) ⟨hown, hlink, ⟨_, _, _, hsame _ hi⟩, hst⟩ (by rw [q2]; exact h6) q1 q3 (by rw [hsl]; exact k2_hasslot (q4 k hk)) rfl rfl hdg fun H' e1 e2 e3 => ?_
  rw [hsl] at e1 ⊢
  exact kk H' _ ⟨⟨_, hc, t_OB.to (V := updV (vp_V fs) k v) ⟨_, e1, q2, q3, t_set q4 hap hk v⟩ (fun j _ => vp_updV_set hl v j)⟩, e2, e3⟩ (hS0.put e2 e3 hA)
theorem g_putN {ref C host : String} {T : u_T} {N ci index : Nat} {fs : List Value} (Cx : CX z p s m args meth c cc nL own) (hin : ∀ w ∈ u_ws C T N, w ∈ lw_all) (ty0 : Nat → FieldType) (hty : ∀ k, k < N → parseFieldDescriptor (T k).2.2.1 = some (ty0 k)) (hnm : ∀ a, a < N → ∀ b, b < N → a ≠ b → (T a).2.1 ≠ (T b).2.1) (he : c1 z a (.inr (ci, fs)) H) (hc : clA[ci]? = some (C, T, N)) (k : Nat) (hk : k < N) (hlink : (Cond.fieldLinkNest own index ref (T k).2.1 (T k).2.2.1 host).before args s = true) (hsame : ∀ x, s.fieldFound? (T k).1 (T k).2.1 (T k).2.2.1 = some x → s.fieldFound? ref (T k).2.1 (T k).2.2.1 = some x) (hfin : (T k).2.2.2 = false) {ty : FieldType} {v : Value} (hd : parseFieldDescriptor (T k).2.2.1 = some ty) (hn : narrow ty v = v) (hfit : fits ty v = true) (hl : k < fs.length) (hS0 : va_S (AA z) H0 H locs) (hA : AA z a)
    (hdg : decode cc pc = .ok (.putfield index, 3)) (kk : ∀ (H1 : Heap) (locs1 : List Loc), Up z a (.inr (ci, fs.set k v)) H H1 → va_S (AA z) H0 H1 locs1 → W p l e R s m args below meth c H1 locs1 cells slots Q (F0 m (pc + 3) ls rest)) : W p l e R s m args below meth c H locs cells slots Q (F0 m pc ls (v :: .ref a :: rest)) := by
  have hexec := Cx.1.1
  have hb := Cx.1.2.1
  have hown := Cx.1.2.2.2.1
  have hts := Cx.1.2.2.2.2
  have hK := Cx.2.1.1
  have hap := va_apart (own := own) hts hin ty0 hty hnm hK hc
  obtain ⟨r, h1, cell, q1, q2, q3, q4⟩ := he
  have hr : r = (C, T, N) := Option.some.inj (h1.symm.trans hc)
  subst hr
  obtain ⟨hS, hfc, kC, hkC, hkind⟩ := hK.1 ci _ hc
  obtain ⟨cf, kf, fi, f, hi, hsl⟩ := hS k hk
  have hlay := hts _ (hin _ (u_in_lay hk))
  unfold u_lay at hlay
  rw [if_neg (by rw [hfin]; decide)] at hlay
  have hst := (u_facts hfc hkC (u_lays hts hin hk) hi).1
  have h6 := u_store hfc hkC hkind hlay hi hd hn hfit
  refine va_WputK hexec hb (f := f) hown hlink (hsame _ hi) hst (by rw [q2]; exact h6) q1 q3 (by rw [hsl]; exact k2_hasslot (q4 k hk)) rfl rfl hdg fun H' e1 e2 e3 => ?_
  rw [hsl] at e1 ⊢
  exact kk H' _ ⟨⟨_, hc, t_OB.to (V := updV (vp_V fs) k v) ⟨_, e1, q2, q3, t_set q4 hap hk v⟩ (fun j _ => vp_updV_set hl v j)⟩, e2, e3⟩ (hS0.put e2 e3 hA)
theorem g_putF {ref C : String} {T : u_T} {N ci index : Nat} {fs : List Value} (Cx : CX z p s m args meth c cc nL own) (hin : ∀ w ∈ u_ws C T N, w ∈ lw_all) (ty0 : Nat → FieldType) (hty : ∀ k, k < N → parseFieldDescriptor (T k).2.2.1 = some (ty0 k)) (hnm : ∀ a, a < N → ∀ b, b < N → a ≠ b → (T a).2.1 ≠ (T b).2.1) (he : c1 z a (.inr (ci, fs)) H) (hc : clA[ci]? = some (C, T, N)) (k : Nat) (hk : k < N) (hlink : (Cond.fieldLink own index ref (T k).2.1 (T k).2.2.1).before args s = true) (hsame : ∀ x, s.fieldFound? (T k).1 (T k).2.1 (T k).2.2.1 = some x → s.fieldFound? ref (T k).2.1 (T k).2.2.1 = some x) (hfin : (T k).2.2.2 = true) (hin2 : meth.name = "<init>") (hdecl : (T k).1 = own) {ty : FieldType} {v : Value} (hd : parseFieldDescriptor (T k).2.2.1 = some ty) (hn : narrow ty v = v) (hfit : fits ty v = true) (hl : k < fs.length) (hS0 : va_S (AA z) H0 H locs) (hA : AA z a)
    (hdg : decode cc pc = .ok (.putfield index, 3)) (kk : ∀ (H1 : Heap) (locs1 : List Loc), Up z a (.inr (ci, fs.set k v)) H H1 → va_S (AA z) H0 H1 locs1 → W p l e R s m args below meth c H1 locs1 cells slots Q (F0 m (pc + 3) ls rest)) : W p l e R s m args below meth c H locs cells slots Q (F0 m pc ls (v :: .ref a :: rest)) := by
  have hexec := Cx.1.1
  have hb := Cx.1.2.1
  have hown := Cx.1.2.2.2.1
  have hts := Cx.1.2.2.2.2
  have hK := Cx.2.1.1
  have hap := va_apart (own := own) hts hin ty0 hty hnm hK hc
  obtain ⟨r, h1, cell, q1, q2, q3, q4⟩ := he
  have hr : r = (C, T, N) := Option.some.inj (h1.symm.trans hc)
  subst hr
  obtain ⟨hS, hfc, kC, hkC, hkind⟩ := hK.1 ci _ hc
  obtain ⟨cf, kf, fi, f, hi, hsl⟩ := hS k hk
  have hlay := hts _ (hin _ (u_in_lay hk))
  unfold u_lay at hlay
  rw [if_pos hfin] at hlay
  have hst := (u_facts hfc hkC (u_lays hts hin hk) hi).1
  have hcf : m.cls = cf := by
    obtain ⟨_, _, c', _, _, _, -, -, hf', -, -, -, hown2, -⟩ := Cond.laysFinal_spec hlay
    have e1 : c' = cf := by have := hi.symm.trans hf'; simp at this; exact this.1.symm
    rw [hdecl] at hown2
    rw [← e1]; exact Option.some.inj (hown.symm.trans hown2)
  have h6 := u_fits hfc hkC hkind (Or.inr hlay) hi hd hn hfit
  refine W.putFinK hexec hb hown hlink (hsame _ hi) hst hcf hin2 (by rw [q2]; exact h6) q1 q3 (by rw [hsl]; exact k2_hasslot (q4 k hk)) rfl rfl hdg fun H' e1 e2 e3 => ?_
  rw [hsl] at e1 ⊢
  exact kk H' _ ⟨⟨_, hc, t_OB.to (V := updV (vp_V fs) k v) ⟨_, e1, q2, q3, t_set q4 hap hk v⟩ (fun j _ => vp_updV_set hl v j)⟩, e2, e3⟩ (hS0.put e2 e3 hA)
/-! arrays of ints -/
abbrev aI (z : Zt) (n : Nat) (f : Nat → Int32) : va_E := .inl (zc z 0, n, .inl f)
abbrev aQ (z : Zt) (n : Nat) (f : Nat → Option Nat) : va_E := .inl (zc z 1, n, .inr (.inr (.inr (.inr f))))
abbrev aL (z : Zt) (n : Nat) (f : Nat → Int64) : va_E := .inl (zc z 2, n, .inr (.inl f))
theorem g_iald {n : Nat} {f : Nat → Int32} {i : Int32} (Cx : CX z p s m args meth c cc nL own) (hq : c1 z a (aI z n f) H) (hin : vp_in i n) (hdg : decode cc pc = .ok (.iaload, 1))
    (kk : W p l e R s m args below meth c H locs cells slots Q (F0 m (pc + 1) ls (.int (f i.toNatClampNeg) :: rest))) : W p l e R s m args below meth c H locs cells slots Q (F0 m pc ls (.int i :: .ref a :: rest)) :=
  va_iald Cx.1.1 Cx.1.2.1 Cx.2.1.1 hq.P 0 0 rfl rfl hin hdg kk
theorem g_lald {n : Nat} {f : Nat → Int64} {i : Int32} (Cx : CX z p s m args meth c cc nL own) (hq : c1 z a (aL z n f) H) (hin : vp_in i n) (hdg : decode cc pc = .ok (.laload, 1))
    (kk : W p l e R s m args below meth c H locs cells slots Q (F0 m (pc + 1) ls (.long (f i.toNatClampNeg) :: rest))) : W p l e R s m args below meth c H locs cells slots Q (F0 m pc ls (.int i :: .ref a :: rest)) :=
  va_lald Cx.1.1 Cx.1.2.1 Cx.2.1.1 hq.P 0 2 rfl rfl hin hdg kk
theorem g_qald {n : Nat} {f : Nat → Option Nat} {i : Int32} (Cx : CX z p s m args meth c cc nL own) (hq : c1 z a (aQ z n f) H) (hin : vp_in i n) (hdg : decode cc pc = .ok (.aaload, 1))
    (kk : W p l e R s m args below meth c H locs cells slots Q (F0 m (pc + 1) ls (va_rf (f i.toNatClampNeg) :: rest))) : W p l e R s m args below meth c H locs cells slots Q (F0 m pc ls (.int i :: .ref a :: rest)) :=
  va_aldq Cx.1.1 Cx.1.2.1 Cx.2.1.1 hq.P 0 1 rfl rfl hin hdg kk
theorem g_ialen {n : Nat} {f : Nat → Int32} (Cx : CX z p s m args meth c cc nL own) (hq : c1 z a (aI z n f) H) (hdg : decode cc pc = .ok (.arraylength, 1))
    (kk : W p l e R s m args below meth c H locs cells slots Q (F0 m (pc + 1) ls (.int (nI n) :: rest))) : W p l e R s m args below meth c H locs cells slots Q (F0 m pc ls (.ref a :: rest)) :=
  va_alen Cx.1.1 Cx.1.2.1 Cx.2.1.1 hq.P 0 0 rfl rfl rfl hdg kk
theorem g_qalen {n : Nat} {f : Nat → Option Nat} (Cx : CX z p s m args meth c cc nL own) (hq : c1 z a (aQ z n f) H) (hdg : decode cc pc = .ok (.arraylength, 1))
    (kk : W p l e R s m args below meth c H locs cells slots Q (F0 m (pc + 1) ls (.int (nI n) :: rest))) : W p l e R s m args below meth c H locs cells slots Q (F0 m pc ls (.ref a :: rest)) :=
  va_alen Cx.1.1 Cx.1.2.1 Cx.2.1.1 hq.P 0 1 rfl rfl rfl hdg kk
theorem g_iast {n : Nat} {f : Nat → Int32} {i x : Int32} (Cx : CX z p s m args meth c cc nL own) (hq : c1 z a (aI z n f) H) (hin : vp_in i n) (hS : va_S (AA z) H0 H locs) (hA : AA z a) (hdg : decode cc pc = .ok (.iastore, 1))
    (kk : ∀ (H1 : Heap) (locs1 : List Loc), Up z a (aI z n (upd f i.toNatClampNeg x)) H H1 → va_S (AA z) H0 H1 locs1 → W p l e R s m args below meth c H1 locs1 cells slots Q (F0 m (pc + 1) ls rest)) : W p l e R s m args below meth c H locs cells slots Q (F0 m pc ls (.int x :: .int i :: .ref a :: rest)) := by
  refine W.iast Cx.1.1 Cx.1.2.1 hq ((Cx.2.1.1.2 0 _ rfl).1 n (fun j => .int (f j))) (fun q => by cases q) (by show ¬ (i < 0 ∨ (arrV _ _ _).slots.size ≤ _); rw [arrV_size]; exact hin) rfl rfl hdg fun H1 e z9 oq => ?_
  refine kk H1 _ ⟨?_, z9, oq⟩ (hS.put z9 oq hA)
  show H1[a]? = some (vp_cell _ _)
  rw [e]
  rw [vp_cell_i, vp_cell_i, arrV_store]
  congr 2
  funext q
  by_cases hq : q = i.toNatClampNeg
  · subst hq
    simp [updV, upd]
  · simp [updV, upd, hq]
theorem g_last {n : Nat} {f : Nat → Int64} {i : Int32} {x : Int64} (Cx : CX z p s m args meth c cc nL own) (hq : c1 z a (aL z n f) H) (hin : vp_in i n) (hS : va_S (AA z) H0 H locs) (hA : AA z a) (hdg : decode cc pc = .ok (.lastore, 1))
    (kk : ∀ (H1 : Heap) (locs1 : List Loc), Up z a (aL z n (vp_updL f i.toNatClampNeg x)) H H1 → va_S (AA z) H0 H1 locs1 → W p l e R s m args below meth c H1 locs1 cells slots Q (F0 m (pc + 1) ls rest)) : W p l e R s m args below meth c H locs cells slots Q (F0 m pc ls (.long x :: .int i :: .ref a :: rest)) := by
  refine W.last Cx.1.1 Cx.1.2.1 hq ((Cx.2.1.1.2 2 _ rfl).1 n (fun j => .long (f j))) (fun q => by cases q) (by show ¬ (i < 0 ∨ (arrV _ _ _).slots.size ≤ _); rw [arrV_size]; exact hin) rfl rfl hdg fun H1 e z9 oq => ?_
  refine kk H1 _ ⟨?_, z9, oq⟩ (hS.put z9 oq hA)
  show H1[a]? = some (vp_cell _ _)
  rw [e]
  rw [vp_cell_l, vp_cell_l, arrV_store]
  congr 2
  funext q
  by_cases hq : q = i.toNatClampNeg
  · subst hq
    simp [updV, vp_updL]
  · simp [updV, vp_updL, hq]
theorem g_qast {n v : Nat} {f : Nat → Option Nat} {i : Int32} (Cx : CX z p s m args meth c cc nL own) (hq : c1 z a (aQ z n f) H) (hr : va_Any "java/lang/Object" s H v) (hin : vp_in i n) (hS : va_S (AA z) H0 H locs) (hA : AA z a) (hdg : decode cc pc = .ok (.aastore, 1))
    (kk : ∀ (H1 : Heap) (locs1 : List Loc), Up z a (aQ z n (va_up f i.toNatClampNeg (some v))) H H1 → va_S (AA z) H0 H1 locs1 → W p l e R s m args below meth c H1 locs1 cells slots Q (F0 m (pc + 1) ls rest)) : W p l e R s m args below meth c H locs cells slots Q (F0 m pc ls (.ref v :: .int i :: .ref a :: rest)) := by
  have hlt : i.toNatClampNeg < n := Nat.not_le.mp fun q => hin (Or.inr q)
  have h0 : ¬ i < 0 := fun q => hin (Or.inl q)
  obtain ⟨cellV, g1, g3, ⟨kC, hkC⟩, hasg⟩ := hr
  obtain ⟨kA, comp, k1, k2, k3, -⟩ := (Cx.2.1.1.2 1 _ rfl).2
  obtain ⟨kE, hkE, -⟩ := Vm.findClass_spec k3
  refine W.aast Cx.1.1 Cx.1.2.1 hq (fun q h => by cases h) (fun h => by cases h) k1 k2 rfl hkE ⟨h0, by show _ < (arrV _ _ _).slots.size; rw [arrV_size]; exact hlt⟩ g1 (fun q h => by rw [h] at g3; cases g3) hkC (hasg _ k3) rfl rfl hdg fun H1 e z9 oq => ?_
  refine kk H1 _ ⟨?_, z9, oq⟩ (hS.put z9 oq hA)
  show H1[a]? = some (vp_cell _ _)
  rw [e]
  rw [vp_cell_q, vp_cell_q, arrV_store]
  congr 2
  funext q
  by_cases hq : q = i.toNatClampNeg
  · subst hq
    simp [updV, va_up, va_rf]
  · simp [updV, va_up, hq]
theorem g_qastN {n : Nat} {f : Nat → Option Nat} {i : Int32} (Cx : CX z p s m args meth c cc nL own) (hq : c1 z a (aQ z n f) H) (hin : vp_in i n) (hS : va_S (AA z) H0 H locs) (hA : AA z a) (hdg : decode cc pc = .ok (.aastore, 1))
    (kk : ∀ (H1 : Heap) (locs1 : List Loc), Up z a (aQ z n (va_up f i.toNatClampNeg none)) H H1 → va_S (AA z) H0 H1 locs1 → W p l e R s m args below meth c H1 locs1 cells slots Q (F0 m (pc + 1) ls rest)) : W p l e R s m args below meth c H locs cells slots Q (F0 m pc ls (.null :: .int i :: .ref a :: rest)) := by
  refine va_WaastN (C := "java/lang/Object") Cx.1.1 Cx.1.2.1 hq ((Cx.2.1.1.2 1 _ rfl).1 n (fun j => va_rf (f j))) (fun h => by cases h) (by show ¬ (i < 0 ∨ (arrV _ _ _).slots.size ≤ _); rw [arrV_size]; exact hin) rfl rfl hdg fun H1 e z9 oq => ?_
  refine kk H1 _ ⟨?_, z9, oq⟩ (hS.put z9 oq hA)
  show H1[a]? = some (vp_cell _ _)
  rw [e]
  rw [vp_cell_q, vp_cell_q, arrV_store]
  congr 2
  funext q
  by_cases hq : q = i.toNatClampNeg
  · subst hq
    simp [updV, va_up, va_rf]
  · simp [updV, va_up, hq]
/-- a new cell at the heap's end -/
def New (z : Zt) (e : va_E) (H H1 : Heap) : Prop := c1 z H.size e H1 ∧ H1.size = H.size + 1 ∧ ∀ q : Nat, q < H.size → H1[q]? = H[q]?
theorem New.ext {e : va_E} {H1 : Heap} (h : New z e H H1) : Ext H H1 := ⟨by have := h.2.1; omega, h.2.2⟩
theorem New.S {e : va_E} {H1 : Heap} (h : New z e H H1) (hS : va_S (AA z) H0 H locs) : va_S (AA z) H0 H1 locs := ⟨Nat.le_trans hS.1 (by have := h.2.1; omega), fun x h1 h2 => (h.2.2 x (Nat.lt_of_lt_of_le h1 hS.1)).trans (hS.2.1 x h1 h2), hS.2.2⟩
theorem g_newi {n : Int32} {N : Nat} (Cx : CX z p s m args meth c cc nL own) (hn : ¬ n < 0) (hN : n.toNatClampNeg = N) (hb : N ≤ 1000) (hS : va_S (AA z) H0 H locs) (hcells : cells + 1 ≤ R.cells) (hslots : slots + N ≤ R.slots) (hdg : decode cc pc = .ok (.newarray .int, 2))
    (kk : ∀ H1 : Heap, New z (aI z N (fun _ => 0)) H H1 → va_S (AA z) H0 H1 locs → W p l e R s m args below meth c H1 locs (cells + 1) (slots + N) Q (F0 m (pc + 2) ls (.ref H.size :: rest))) : W p l e R s m args below meth c H locs cells slots Q (F0 m pc ls (.int n :: rest)) := by
  refine va_newaK (atype := .int) Cx.1.1 Cx.1.2.1 (Cx.1.2.2.2.2 _ q103) rfl hdg rfl hn hN (by show N * 4 ≤ _; omega) hcells hslots rfl fun H1 cA e1 z1 o1 hAr hNm => ?_
  have hcA : cA = zc z 0 := Option.some.inj (hNm.symm.trans ((Cx.2.1.1.2 0 _ rfl).2))
  subst hcA
  have hNw : New z (aI z N (fun _ => 0)) H H1 := ⟨e1, z1, o1⟩
  exact kk H1 hNw (hNw.S hS)
theorem g_newl {n : Int32} {N : Nat} (Cx : CX z p s m args meth c cc nL own) (hn : ¬ n < 0) (hN : n.toNatClampNeg = N) (hb : N ≤ 1000) (hS : va_S (AA z) H0 H locs) (hcells : cells + 1 ≤ R.cells) (hslots : slots + N ≤ R.slots) (hdg : decode cc pc = .ok (.newarray .long, 2))
    (kk : ∀ H1 : Heap, New z (aL z N (fun _ => 0)) H H1 → va_S (AA z) H0 H1 locs → W p l e R s m args below meth c H1 locs (cells + 1) (slots + N) Q (F0 m (pc + 2) ls (.ref H.size :: rest))) : W p l e R s m args below meth c H locs cells slots Q (F0 m pc ls (.int n :: rest)) := by
  refine va_newaK (atype := .long) Cx.1.1 Cx.1.2.1 (Cx.1.2.2.2.2 _ q1038) rfl hdg rfl hn hN (by show N * 8 ≤ _; omega) hcells hslots rfl fun H1 cA e1 z1 o1 hAr hNm => ?_
  have hcA : cA = zc z 2 := Option.some.inj (hNm.symm.trans ((Cx.2.1.1.2 2 _ rfl).2))
  subst hcA
  have hNw : New z (aL z N (fun _ => 0)) H H1 := ⟨e1, z1, o1⟩
  exact kk H1 hNw (hNw.S hS)
theorem g_newq {n : Int32} {N index : Nat} (Cx : CX z p s m args meth c cc nL own) (hclink : (Cond.classLink own index "java/lang/Object").before args s = true) (hn : ¬ n < 0) (hN : n.toNatClampNeg = N) (hb : N ≤ 1000) (hS : va_S (AA z) H0 H locs) (hcells : cells + 1 ≤ R.cells) (hslots : slots + N ≤ R.slots) (hdg : decode cc pc = .ok (.anewarray index, 3))
    (kk : ∀ H1 : Heap, New z (aQ z N (fun _ => none)) H H1 → va_S (AA z) H0 H1 locs → W p l e R s m args below meth c H1 locs (cells + 1) (slots + N) Q (F0 m (pc + 3) ls (.ref H.size :: rest))) : W p l e R s m args below meth c H locs cells slots Q (F0 m pc ls (.int n :: rest)) := by
  subst hN
  refine W.anew Cx.1.1 Cx.1.2.1 Cx.1.2.2.2.1 hclink (va_AO.use Cx.2.1.2.2.2.2.1) rfl hdg rfl hn (by omega) hcells hslots fun cA kA comp f1 f2 f3 f4 => ?_
  generalize hH1 : H.push ({ cls := cA, slots := Array.replicate n.toNatClampNeg .null, vm := .none } : Cell) = H1
  have z1 : H1.size = H.size + 1 := by rw [← hH1, Array.size_push]
  have e1 : H1[H.size]? = some (arrV cA n.toNatClampNeg (fun _ => .null)) := by rw [← hH1, Array.getElem?_push_size, ← arrV_new]
  have o1 : ∀ q : Nat, q < H.size → H1[q]? = H[q]? := fun q hq => by rw [← hH1, Array.getElem?_push, if_neg (Nat.ne_of_lt hq)]
  have hcA : cA = zc z 1 := by
    obtain ⟨-, -, -, -, -, h4⟩ := (Cx.2.1.1.2 1 _ rfl).2
    exact Option.some.inj (f1.symm.trans h4)
  subst hcA
  have hNw : New z (aQ z n.toNatClampNeg (fun _ => none)) H H1 := ⟨e1, z1, o1⟩
  exact kk H1 hNw (hNw.S hS)
theorem g_new {C : String} {T : u_T} {N ci index : Nat} {fs : List Value} (Cx : CX z p s m args meth c cc nL own) (hin : ∀ w ∈ u_ws C T N, w ∈ lw_all) (ty : Nat → FieldType) (hty : ∀ k, k < N → parseFieldDescriptor (T k).2.2.1 = some (ty k)) (hcl : (Cond.classLink own index C).before args s = true) (hinst : (Cond.instantiable C N).before args s = true) (hini : (Cond.initialized C).before args s = true)
    (hc : clA[ci]? = some (C, T, N)) (hfs : ∀ j, j < N → defaultValue (ty j) = vp_V fs j) (hS : va_S (AA z) H0 H locs) (hcells : cells + 1 ≤ R.cells) (hslots : slots + N ≤ R.slots) (hdg : decode cc pc = .ok (.new index, 3))
    (kk : ∀ H1 : Heap, New z (.inr (ci, fs)) H H1 → va_S (AA z) H0 H1 locs → W p l e R s m args below meth c H1 locs (cells + 1) (slots + N) Q (F0 m (pc + 3) ls (.ref H.size :: rest))) : W p l e R s m args below meth c H locs cells slots Q (F0 m pc ls rest) := by
  have hKn := Cx.2.1.1.1 ci _ hc
  refine W.newcK Cx.1.1 Cx.1.2.1 Cx.1.2.2.2.1 hcl hinst hini rfl hdg hcells hslots hKn.2.1 rfl fun H1 kC hkC e1 z1 o1 => ?_
  have hNw : New z (.inr (ci, fs)) H H1 := ⟨⟨_, hc, (u_born ty Cx.1.2.2.2.2 hin hKn hkC e1 hty).to hfs⟩, z1, o1⟩
  exact kk H1 hNw (hNw.S hS)
theorem g_copyi {index : Nat} {a0 n0 n1 : Nat} {f g : Nat → Int32} {sp dp n : Int32} (Cx : CX z p s m args meth c cc nL own) (hsz : ls.size = nL) (hlink : (Cond.methodLink own index arraycopyName).before args s = true) (ha0 : c1 z a0 (aI z n0 f) H) (ha1 : c1 z a (aI z n1 g) H)
    (h1 : ¬ sp < 0) (h2 : ¬ dp < 0) (h3 : ¬ n < 0) (h4 : sp.toNatClampNeg + n.toNatClampNeg ≤ n0) (h5 : dp.toNatClampNeg + n.toNatClampNeg ≤ n1) (hS : va_S (AA z) H0 H locs) (hA : AA z a)
    (hframes : 1 ≤ R.frames) (hlocals : (rest.map fun v => v.category).sum + (nativeFrameWords "java/lang/System" "arraycopy" 5 + 11) ≤ R.locals) (hdg : decode cc pc = .ok (.invokestatic index, 3))
    (kk : ∀ (H1 : Heap) (locs1 : List Loc), Up z a (aI z n1 (va_cpy f g sp.toNatClampNeg dp.toNatClampNeg n.toNatClampNeg)) H H1 → va_S (AA z) H0 H1 locs1 → W p l e R s m args below meth c H1 locs1 cells slots Q (F0 m (pc + 3) ls rest)) : W p l e R s m args below meth c H locs cells slots Q (F0 m pc ls (.int n :: .int dp :: .ref a :: .int sp :: .ref a0 :: rest)) := by
  have hK := Cx.2.1.1
  have hml : c.maxLocals = ls.size := Cx.1.2.2.1.trans hsz.symm
  have nn : ∀ z : Int32, ¬ z < 0 → z.toInt = (z.toNatClampNeg : Int) := by
    intro z hz
    have hz0 : (0 : Int) ≤ z.toInt := by
      have := Int32.not_lt.mp hz
      simpa using Int32.le_iff_toInt_le.mp this
    show z.toInt = ((z.toInt.toNat : Nat) : Int)
    omega
  intro T hT X
  have hc0 : H[a0]? = some (vp_cell (zc z 0) (n0, .inl f)) := ha0
  have hc1 : H[a]? = some (vp_cell (zc z 0) (n1, .inl g)) := ha1
  obtain ⟨-, k0, hk0, cm0, hkk0⟩ := (hK.2 0 _ rfl).1 n0 (fun j => .int (f j))
  obtain ⟨-, k1, hk1, cm1, hkk1⟩ := (hK.2 0 _ rfl).1 n1 (fun j => .int (g j))
  obtain ⟨vm', X', step⟩ := X.arraycopy Cx.1.1 Cx.1.2.2.2.1 hlink (Cx.1.2.2.2.2 _ q523) (Cx.1.2.2.2.2 _ q522) (Cx.1.2.2.2.2 _ q58) (src := a0) (dst := a) (cs := vp_cell (zc z 0) (n0, .inl f)) (cd := vp_cell (zc z 0) (n1, .inl g)) (srcPos := sp) (destPos := dp) (n := n) (by rw [hT]; exact hc0) (by rw [hT]; exact hc1)
    (fun _ h => by cases h) (fun _ h => by cases h) (fun h => by cases h) (fun h => by cases h) hk0 hk1 hkk0 hkk1 (by simp [refKind]) h1 h2 h3
    (by rw [nn sp h1, nn n h3]; show ¬ _ > ((arrV (zc z 0) n0 (fun j => .int (f j))).slots.size : Int); rw [arrV_size]; omega)
    (by rw [nn dp h2, nn n h3]; show ¬ _ > ((arrV (zc z 0) n1 (fun j => .int (g j))).slots.size : Int); rw [arrV_size]; omega)
    (fun vm₁ _ i hi => by
      have e : (vp_cell (zc z 0) (n0, .inl f)).slots.getD (sp.toNatClampNeg + i) .null = .int (f (sp.toNatClampNeg + i)) := by
        show (arrV (zc z 0) n0 (fun j => .int (f j))).slots.getD _ _ = _
        rw [Array.getD_eq_getD_getElem?, arrV_read _ _ (by omega)]
        rfl
      refine ⟨?_, ?_⟩
      · rw [e]
        rfl
      · rw [e]
        exact trivial)
    (g := F0 m pc ls (.int n :: .int dp :: .ref a :: .int sp :: .ref a0 :: rest)) rfl (by rw [hml]) (rest := rest) rfl (by rw [Cx.1.2.1]; exact hdg) hframes (by show 2 * 0 + _ + _ ≤ _; omega)
  have e1 : copied (vp_cell (zc z 0) (n0, .inl f)) (vp_cell (zc z 0) (n1, .inl g)) sp dp n = vp_cell (zc z 0) (n1, .inl (va_cpy f g sp.toNatClampNeg dp.toNatClampNeg n.toNatClampNeg)) := va_copied (fun z => .int z) (zc z 0) (zc z 0) f g h4
  rw [e1] at X' step
  have hl : a < H.size := (Array.getElem?_eq_some_iff.mp hc1).1
  have hheap : ((T.setVm vm').setCell a (vp_cell (zc z 0) (n1, .inl (va_cpy f g sp.toNatClampNeg dp.toNatClampNeg n.toNatClampNeg)))).heap = H.setIfInBounds a (vp_cell (zc z 0) (n1, .inl (va_cpy f g sp.toNatClampNeg dp.toNatClampNeg n.toNatClampNeg))) := by rw [← hT]; rfl
  have oq : ∀ q : Nat, q ≠ a → (H.setIfInBounds a (vp_cell (zc z 0) (n1, .inl (va_cpy f g sp.toNatClampNeg dp.toNatClampNeg n.toNatClampNeg))))[q]? = H[q]? := fun q hq => by simp [Array.getElem?_setIfInBounds, Ne.symm hq]
  obtain ⟨t, a1, b1⟩ := kk _ _ ⟨(show (H.setIfInBounds a _)[a]? = some _ by simp [Array.getElem?_setIfInBounds, hl]), by simp, oq⟩ ⟨by simp; exact hS.1, fun q g1 g2 => by
      rw [oq q (fun e => g2 (by rw [e]; exact hA))]
      exact hS.2.1 q g1 g2, fun q hq => by
      rcases List.mem_append.mp hq with h | h
      · exact hS.2.2 q h
      · obtain ⟨z, -, hz⟩ := List.mem_map.mp h
        rw [← hz]
        exact hA⟩ _ hheap X'
  exact ⟨t, step t a1, b1⟩
theorem g_copyq {index : Nat} {a0 n0 n1 : Nat} {f g : Nat → Option Nat} {sp dp n : Int32} (Cx : CX z p s m args meth c cc nL own) (hsz : ls.size = nL) (hlink : (Cond.methodLink own index arraycopyName).before args s = true) (ha0 : c1 z a0 (aQ z n0 f) H) (ha1 : c1 z a (aQ z n1 g) H)
    (h1 : ¬ sp < 0) (h2 : ¬ dp < 0) (h3 : ¬ n < 0) (h4 : sp.toNatClampNeg + n.toNatClampNeg ≤ n0) (h5 : dp.toNatClampNeg + n.toNatClampNeg ≤ n1) (hel : ∀ i : Nat, i < n.toNatClampNeg → ∀ y : Nat, f (sp.toNatClampNeg + i) = some y → va_Any "java/lang/Object" s H y) (hS : va_S (AA z) H0 H locs) (hA : AA z a)
    (hframes : 1 ≤ R.frames) (hlocals : (rest.map fun v => v.category).sum + (nativeFrameWords "java/lang/System" "arraycopy" 5 + 11) ≤ R.locals) (hdg : decode cc pc = .ok (.invokestatic index, 3))
    (kk : ∀ (H1 : Heap) (locs1 : List Loc), Up z a (aQ z n1 (va_cpy f g sp.toNatClampNeg dp.toNatClampNeg n.toNatClampNeg)) H H1 → va_S (AA z) H0 H1 locs1 → W p l e R s m args below meth c H1 locs1 cells slots Q (F0 m (pc + 3) ls rest)) : W p l e R s m args below meth c H locs cells slots Q (F0 m pc ls (.int n :: .int dp :: .ref a :: .int sp :: .ref a0 :: rest)) := by
  have hK := Cx.2.1.1
  have hml : c.maxLocals = ls.size := Cx.1.2.2.1.trans hsz.symm
  have nn : ∀ z : Int32, ¬ z < 0 → z.toInt = (z.toNatClampNeg : Int) := by
    intro z hz
    have hz0 : (0 : Int) ≤ z.toInt := by
      have := Int32.not_lt.mp hz
      simpa using Int32.le_iff_toInt_le.mp this
    show z.toInt = ((z.toInt.toNat : Nat) : Int)
    omega
  intro T hT X
  have hc0 : H[a0]? = some (vp_cell (zc z 1) (n0, .inr (.inr (.inr (.inr f))))) := ha0
  have hc1 : H[a]? = some (vp_cell (zc z 1) (n1, .inr (.inr (.inr (.inr g))))) := ha1
  obtain ⟨-, k0, hk0, cm0, hkk0⟩ := (hK.2 1 _ rfl).1 n0 (fun j => va_rf (f j))
  obtain ⟨-, k1, hk1, cm1, hkk1⟩ := (hK.2 1 _ rfl).1 n1 (fun j => va_rf (g j))
  obtain ⟨vm', X', step⟩ := X.arraycopy Cx.1.1 Cx.1.2.2.2.1 hlink (Cx.1.2.2.2.2 _ q523) (Cx.1.2.2.2.2 _ q522) (Cx.1.2.2.2.2 _ q58) (src := a0) (dst := a) (cs := vp_cell (zc z 1) (n0, .inr (.inr (.inr (.inr f))))) (cd := vp_cell (zc z 1) (n1, .inr (.inr (.inr (.inr g))))) (srcPos := sp) (destPos := dp) (n := n) (by rw [hT]; exact hc0) (by rw [hT]; exact hc1)
    (fun _ h => by cases h) (fun _ h => by cases h) (fun h => by cases h) (fun h => by cases h) hk0 hk1 hkk0 hkk1 rfl h1 h2 h3
    (by rw [nn sp h1, nn n h3]; show ¬ _ > ((arrV (zc z 1) n0 (fun j => va_rf (f j))).slots.size : Int); rw [arrV_size]; omega)
    (by rw [nn dp h2, nn n h3]; show ¬ _ > ((arrV (zc z 1) n1 (fun j => va_rf (g j))).slots.size : Int); rw [arrV_size]; omega)
    (fun vm₁ hal i hi => by
      have e : (vp_cell (zc z 1) (n0, .inr (.inr (.inr (.inr f))))).slots.getD (sp.toNatClampNeg + i) .null = va_rf (f (sp.toNatClampNeg + i)) := by
        show (arrV (zc z 1) n0 (fun j => va_rf (f j))).slots.getD _ _ = _
        rw [Array.getD_eq_getD_getElem?, arrV_read _ _ (by omega)]
        rfl
      rw [e]
      cases hy : f (sp.toNatClampNeg + i) with
      | none => exact ⟨rfl, trivial⟩
      | some y =>
        obtain ⟨cellV, g1, g2, ⟨kC, hkC⟩, hasg⟩ := hel i hi y hy
        obtain ⟨kA, comp, r1, r2, r3, -⟩ := (hK.2 1 _ rfl).2
        cases hk1.symm.trans r1
        cases hkk1.symm.trans r2
        obtain ⟨kE, hkE, -⟩ := Vm.findClass_spec r3
        obtain ⟨kC', hkC', -⟩ := hal.2.2 _ _ hkC
        obtain ⟨kE', hkE', -⟩ := hal.2.2 _ _ hkE
        refine ⟨rfl, cellV, (show T.heap[y]? = some cellV by rw [hT]; exact g1), (fun q h => by rw [h] at g2; cases g2), ⟨kC', hkC'⟩, ?_, ?_⟩
        · exact ⟨kE', hkE'⟩
        · show vm₁.assignable _ _ = true
          rw [hal.assignable]
          exact hasg _ r3)
    (g := F0 m pc ls (.int n :: .int dp :: .ref a :: .int sp :: .ref a0 :: rest)) rfl (by rw [hml]) (rest := rest) rfl (by rw [Cx.1.2.1]; exact hdg) hframes (by show 2 * 0 + _ + _ ≤ _; omega)
  have e1 : copied (vp_cell (zc z 1) (n0, .inr (.inr (.inr (.inr f))))) (vp_cell (zc z 1) (n1, .inr (.inr (.inr (.inr g))))) sp dp n = vp_cell (zc z 1) (n1, .inr (.inr (.inr (.inr (va_cpy f g sp.toNatClampNeg dp.toNatClampNeg n.toNatClampNeg))))) := by
    rw [vp_cell_q, vp_cell_q, vp_cell_q]
    exact va_copied (fun z => va_rf z) (zc z 1) (zc z 1) f g h4
  rw [e1] at X' step
  have hl : a < H.size := (Array.getElem?_eq_some_iff.mp hc1).1
  have hheap : ((T.setVm vm').setCell a (vp_cell (zc z 1) (n1, .inr (.inr (.inr (.inr (va_cpy f g sp.toNatClampNeg dp.toNatClampNeg n.toNatClampNeg))))))).heap = H.setIfInBounds a (vp_cell (zc z 1) (n1, .inr (.inr (.inr (.inr (va_cpy f g sp.toNatClampNeg dp.toNatClampNeg n.toNatClampNeg)))))) := by rw [← hT]; rfl
  have oq : ∀ q : Nat, q ≠ a → (H.setIfInBounds a (vp_cell (zc z 1) (n1, .inr (.inr (.inr (.inr (va_cpy f g sp.toNatClampNeg dp.toNatClampNeg n.toNatClampNeg)))))))[q]? = H[q]? := fun q hq => by simp [Array.getElem?_setIfInBounds, Ne.symm hq]
  obtain ⟨t, a1, b1⟩ := kk _ _ ⟨(show (H.setIfInBounds a _)[a]? = some _ by simp [Array.getElem?_setIfInBounds, hl]), by simp, oq⟩ ⟨by simp; exact hS.1, fun q g1 g2 => by
      rw [oq q (fun e => g2 (by rw [e]; exact hA))]
      exact hS.2.1 q g1 g2, fun q hq => by
      rcases List.mem_append.mp hq with h | h
      · exact hS.2.2 q h
      · obtain ⟨z, -, hz⟩ := List.mem_map.mp h
        rw [← hz]
        exact hA⟩ _ hheap X'
  exact ⟨t, step t a1, b1⟩
end GRW

