/-! MY BASE: partial heaps, cells, what a method's start and end say; rows over them -/
section MMA
/-- a partial heap -/
abbrev mm_H : Type := Nat → Option Cell
def mm_h (H : Heap) : mm_H := fun q => H[q]?
def mm_le (P R : mm_H) : Prop := ∀ (q : Nat) (c : Cell), P q = some c → R q = some c
theorem mm_le.rf {P : mm_H} : mm_le P P := fun _ _ h => h
theorem mm_le.tr {P Q R : mm_H} (h : mm_le P Q) (k : mm_le Q R) : mm_le P R := fun q c e => k q c (h q c e)
theorem mm_le.at {P : mm_H} {H : Heap} (h : mm_le P (mm_h H)) {q : Nat} {c : Cell} (e : P q = some c) : H[q]? = some c := h q c e
theorem mm_lt {H : Heap} {q : Nat} {c : Cell} (e : H[q]? = some c) : q < H.size := (Array.getElem?_eq_some_iff.mp e).1
theorem mm_le.new {P : mm_H} {H : Heap} (h : mm_le P (mm_h H)) {q : Nat} (hq : H.size ≤ q) : P q = none := by
  cases e : P q with
  | none => rfl
  | some c => exact absurd (mm_lt (h.at e)) (Nat.not_lt.mpr hq)
/-- what is below stays below, where only places that it doesn't hold are changed -/
theorem mm_le.keep {P : mm_H} {H H1 : Heap} {M : Nat → Prop} (h : mm_le P (mm_h H)) (hk : ∀ q, q < H.size → ¬ M q → H1[q]? = H[q]?) (hM : ∀ q, M q → P q = none) : mm_le P (mm_h H1) := by
  intro q c e
  have h1 := h.at e
  show H1[q]? = some c
  rw [hk q (mm_lt h1) (fun z => by rw [hM q z] at e; cases e)]
  exact h1
theorem mm_le.put {P : mm_H} {H H1 : Heap} {a : Nat} (h : mm_le P (mm_h H)) (hk : ∀ q, q ≠ a → H1[q]? = H[q]?) (ha : P a = none) : mm_le P (mm_h H1) := by
  intro q c e
  show H1[q]? = some c
  rw [hk q (fun z => by subst z; rw [ha] at e; cases e)]
  exact h.at e
theorem mm_le.push {P : mm_H} {H H1 : Heap} (h : mm_le P (mm_h H)) (hk : ∀ q, q < H.size → H1[q]? = H[q]?) : mm_le P (mm_h H1) := by
  intro q c e
  have h1 := h.at e
  show H1[q]? = some c
  rw [hk q (mm_lt h1)]
  exact h1
abbrev mm_G : Type := va_G × (Nat → ClassId) × (Nat → Nat)
abbrev mm_cl : List vw_C := [(RX1, TX1, 8), (RX2, TX2, 3), (RX7, TX7, 6), (RX6, TX6, 3), (RX4, TX4, 2), (RX5, TX5, 2), (RX17, TX17, 4), (RX9, TX9, 8), (RX10, TX10, 8), (RX12, TX12, 3), (RX13, TX13, 2), (RX14, TX14, 2), (RX15, TX15, 1), (RX16, TX15, 0), (RX8, TX8, 28), (RJ2, TJ2, 3), (RJ19, TJ19, 3), (RJ23, TJ23, 4), (RJ13, TJ13, 4), (RJ14, TJ14, 4), (RJ4, TJ4, 1)]
def mm_ty (G : mm_G) : List (ClassId × FieldType) := [(G.2.1 0, .int), (G.2.1 1, .byte), (G.2.1 2, .boolean), (G.2.1 3, .long), (G.2.1 4, .object "java/lang/Object")]
/-- an object: its class by its place in mm_cl, its fields -/
def mm_ob (G : mm_G) (P : mm_H) (a ci : Nat) (fs : List Value) : Prop := ∃ (r : vw_C) (cell : Cell), mm_cl[ci]? = some r ∧ P a = some cell ∧ cell.cls = G.1.1 ci ∧ cell.vm = .none ∧ ∀ k, k < r.2.2 → cell.slots[G.1.2 ci k]? = some (vp_V fs k)
/-- an array, of values; of ints; of references -/
def mm_va (P : mm_H) (a : Nat) (cA : ClassId) (n : Nat) (f : Nat → Value) : Prop := P a = some (arrV cA n f)
abbrev mm_ia (G : mm_G) (P : mm_H) (a t n : Nat) (f : Nat → Int32) : Prop := mm_va P a (G.2.1 t) n (fun j => .int (f j))
abbrev mm_la (G : mm_G) (P : mm_H) (a t n : Nat) (f : Nat → Int64) : Prop := mm_va P a (G.2.1 t) n (fun j => .long (f j))
abbrev mm_qa (G : mm_G) (P : mm_H) (a t n : Nat) (f : Nat → Option Nat) : Prop := mm_va P a (G.2.1 t) n (fun j => va_rf (f j))
theorem mm_ob.mono {G : mm_G} {P R : mm_H} {a ci : Nat} {fs : List Value} (h : mm_ob G P a ci fs) (k : mm_le P R) : mm_ob G R a ci fs := by
  obtain ⟨r, cell, h1, h2, h3⟩ := h
  exact ⟨r, cell, h1, k _ _ h2, h3⟩
theorem mm_va.mono {P R : mm_H} {a : Nat} {cA : ClassId} {n : Nat} {f : Nat → Value} (h : mm_va P a cA n f) (k : mm_le P R) : mm_va R a cA n f := k _ _ h
theorem mm_ob.kept {G : mm_G} {H H1 : Heap} {a ci : Nat} {fs : List Value} (h : mm_ob G (mm_h H) a ci fs) (e : H1[a]? = H[a]?) : mm_ob G (mm_h H1) a ci fs := by
  obtain ⟨r, cell, h1, h2, h3⟩ := h
  exact ⟨r, cell, h1, by show H1[a]? = _; rw [e]; exact h2, h3⟩
theorem mm_va.kept {H H1 : Heap} {a : Nat} {cA : ClassId} {n : Nat} {f : Nat → Value} (h : mm_va (mm_h H) a cA n f) (e : H1[a]? = H[a]?) : mm_va (mm_h H1) a cA n f := by
  show H1[a]? = _; rw [e]; exact h
theorem mm_ob.lt {G : mm_G} {H : Heap} {a ci : Nat} {fs : List Value} (h : mm_ob G (mm_h H) a ci fs) : a < H.size := by
  obtain ⟨r, cell, h1, h2, h3⟩ := h
  exact mm_lt h2
theorem mm_va.lt {H : Heap} {a : Nat} {cA : ClassId} {n : Nat} {f : Nat → Value} (h : mm_va (mm_h H) a cA n f) : a < H.size := mm_lt h
theorem mm_ob.P {G : mm_G} {P : mm_H} {H : Heap} {a ci : Nat} {fs : List Value} (h : mm_ob G P a ci fs) (hF : mm_le P (mm_h H)) : va_P G.1 mm_cl [(a, .inr (ci, fs))] H := by
  obtain ⟨r, cell, h1, h2, h3, h4, h5⟩ := h
  intro k q hq
  have hz : k < 1 := (List.getElem?_eq_some_iff.mp hq).1
  rw [show k = 0 by omega] at hq
  cases hq
  exact ⟨r, h1, cell, hF.at h2, h3, h4, h5⟩
theorem mm_ob.of {G : mm_G} {H : Heap} {a ci : Nat} {fs : List Value} (h : va_P G.1 mm_cl [(a, .inr (ci, fs))] H) : mm_ob G (mm_h H) a ci fs := by
  obtain ⟨r, h1, cell, h2, h3, h4, h5⟩ := h 0 _ rfl
  exact ⟨r, cell, h1, h2, h3, h4, h5⟩
/-- one address, one content -/
theorem mm_ob.cls {G : mm_G} {P : mm_H} {a ci cj : Nat} {fs gs : List Value} (h : mm_ob G P a ci fs) (k : mm_ob G P a cj gs) : G.1.1 ci = G.1.1 cj := by
  obtain ⟨r, cell, h1, h2, h3, h4, h5⟩ := h
  obtain ⟨r', cell', k1, k2, k3, k4, k5⟩ := k
  have := h2.symm.trans k2
  cases this
  exact h3.symm.trans k3
end MMA
section MMB
/-! what the tables say, for any state of the run -/
def mm_sp (w : Cond) : Bool := match w with
  | .fieldLinkNest _ _ _ _ _ _ => true
  | .methodLinkNest _ _ _ _ => true
  | .declares _ => true
  | .castable _ _ => true
  | _ => false
def mm_W (U : State) : Prop := ∀ w ∈ lw_tbl, mm_sp w = true → va_Nw w U
theorem mm_W.moved {s U : State} (hW : s.WarmedH U.vm) (h : mm_W s) : mm_W U := by
  intro w hw hs
  have h1 := h w hw hs
  cases w <;> first | (cases hs; done) | (exact va_Nw.warmF hW h1) | (exact va_Nw.warmM hW h1) | (exact va_Nw.warmD hW h1) | (exact va_Nw.warmC hW h1)
theorem mm_W.same {s U : State} (hv : s.vm = U.vm) (h : mm_W s) : mm_W U := by
  intro w hw hs
  have h1 := h w hw hs
  cases w <;> first | (cases hs; done) | (exact va_Nw.same rfl hv h1)
theorem mm_W.use {s : State} {w : Cond} (h : mm_W s) (hw : w ∈ lw_tbl) (hs : mm_sp w = true) : va_Nw w s := h w hw hs
/-- calls through interfaces: the receiver's class, the method named, the method run -/
abbrev mm_fw : List (String × MethodName × MethodName) := [
  ("java/util/ArrayList", ⟨"java/util/List", "size", "()I"⟩, ⟨"java/util/ArrayList", "size", "()I"⟩),
  ("java/util/ArrayList", ⟨"java/util/List", "isEmpty", "()Z"⟩, ⟨"java/util/ArrayList", "isEmpty", "()Z"⟩),
  ("java/util/ArrayList", ⟨"java/util/List", "get", "(I)Ljava/lang/Object;"⟩, ⟨"java/util/ArrayList", "get", "(I)Ljava/lang/Object;"⟩),
  ("java/util/ArrayList", ⟨"java/util/List", "add", "(Ljava/lang/Object;)Z"⟩, ⟨"java/util/ArrayList", "add", "(Ljava/lang/Object;)Z"⟩),
  ("java/util/ArrayList", ⟨"java/util/List", "add", "(ILjava/lang/Object;)V"⟩, ⟨"java/util/ArrayList", "add", "(ILjava/lang/Object;)V"⟩),
  ("java/util/ArrayList", ⟨"java/util/List", "remove", "(I)Ljava/lang/Object;"⟩, ⟨"java/util/ArrayList", "remove", "(I)Ljava/lang/Object;"⟩),
  ("java/util/ArrayList", ⟨"java/util/List", "iterator", "()Ljava/util/Iterator;"⟩, ⟨"java/util/ArrayList", "iterator", "()Ljava/util/Iterator;"⟩),
  ("java/util/ArrayList$Itr", ⟨"java/util/Iterator", "hasNext", "()Z"⟩, ⟨"java/util/ArrayList$Itr", "hasNext", "()Z"⟩),
  ("java/util/ArrayList$Itr", ⟨"java/util/Iterator", "next", "()Ljava/lang/Object;"⟩, ⟨"java/util/ArrayList$Itr", "next", "()Ljava/lang/Object;"⟩),
  ("java/util/ArrayList$Itr", ⟨"java/util/Iterator", "remove", "()V"⟩, ⟨"java/util/ArrayList$Itr", "remove", "()V"⟩),
  ("VectorVersions$Tree$Elements", ⟨"java/util/Iterator", "hasNext", "()Z"⟩, ⟨"VectorVersions$Tree$Elements", "hasNext", "()Z"⟩),
  ("VectorVersions$Tree$Elements", ⟨"java/util/Iterator", "next", "()Ljava/lang/Object;"⟩, ⟨"VectorVersions$Tree$Elements", "next", "()Ljava/lang/Object;"⟩),
  ("java/lang/Integer", ⟨"java/lang/Comparable", "compareTo", "(Ljava/lang/Object;)I"⟩, ⟨"java/lang/Integer", "compareTo", "(Ljava/lang/Object;)I"⟩)]
def mm_F (U : State) : Prop := ∀ t ∈ mm_fw, va_Fw t.1 t.2.1 t.2.2 U
theorem mm_fw_ok : ∀ t ∈ mm_fw, t.2.1.cls ≠ "java/lang/invoke/MethodHandle" ∧ t.2.1.cls ≠ "java/lang/invoke/VarHandle" := by decide +kernel
theorem mm_F.moved {s U : State} (hW : s.vm.Alike U.vm) (h : mm_F s) : mm_F U := fun t ht => va_Fw.moved (mm_fw_ok t ht) hW (h t ht)
theorem mm_F.use {s : State} (h : mm_F s) (k : Nat) {t : String × MethodName × MethodName} (ht : mm_fw[k]? = some t) : va_Fw t.1 t.2.1 t.2.2 s := h t (List.mem_of_getElem? ht)
/-! statics and constants, cells of the partial heap -/
def mm_z (C n d : String) (v : Value) (U : State) (P : mm_H) : Prop := ∃ (cf : ClassId) (kf : Class) (fi : Nat) (f : Field) (a : Nat) (cell : Cell), U.fieldFound? C n d = some (cf, kf, fi, f) ∧ f.isStatic = true ∧ kf.init = .initialized ∧ kf.statics = some a ∧ P a = some cell ∧ cell.vm.isStatics = true ∧ cell.slots[f.slot]? = some v
theorem mm_z.moved {C n d : String} {v : Value} {u U : State} {P : mm_H} (hvm : u.vm.Alike U.vm) (h : mm_z C n d v u P) : mm_z C n d v U P := by
  obtain ⟨cf, kf, fi, f, a, cell, h1, h2, h3, h4, h5⟩ := h
  obtain ⟨k', hi', he⟩ := State.fieldFound?_setVm hvm h1
  exact ⟨cf, k', fi, f, a, cell, hi', h2, by rw [he]; exact h3, by rw [he]; exact h4, h5⟩
theorem mm_z.mono {C n d : String} {v : Value} {U : State} {P R : mm_H} (h : mm_z C n d v U P) (k : mm_le P R) : mm_z C n d v U R := by
  obtain ⟨cf, kf, fi, f, a, cell, h1, h2, h3, h4, h5, h6⟩ := h
  exact ⟨cf, kf, fi, f, a, cell, h1, h2, h3, h4, k _ _ h5, h6⟩
/-- where the machine's own rows (va_, vx_) want a static: it lies outside what may be written -/
theorem mm_z.at {C n d : String} {v : Value} {U : State} {P : mm_H} {H : Heap} {A : Nat → Prop} (h : mm_z C n d v U P) (hF : mm_le P (mm_h H)) (hA : ∀ q, A q → P q = none) : va_Z C n d v A U H := by
  obtain ⟨cf, kf, fi, f, a, cell, h1, h2, h3, h4, h5, h6, h7⟩ := h
  exact ⟨cf, kf, fi, f, a, cell, h1, h2, h3, h4, hF.at h5, h6, h7, fun z => by rw [hA a z] at h5; cases h5⟩
/-- an array of a class that the tables know, nobody writes it -/
def mm_T (ty : FieldType) (t N : Nat) (f : Nat → Value) (U : State) (P : mm_H) : Prop := ∃ cell : Cell, P t = some cell ∧ U.isArrayOf cell ty ∧ cell.vm ≠ .unknown ∧ N ≤ cell.slots.size ∧ cell.slots.size.toInt32 = Int32.ofNat N ∧ ∀ j : Nat, j < N → cell.slots[j]? = some (f j)
theorem mm_T.moved {ty : FieldType} {t N : Nat} {f : Nat → Value} {u U : State} {P : mm_H} (hvm : u.vm.Alike U.vm) (h : mm_T ty t N f u P) : mm_T ty t N f U P := by
  obtain ⟨cell, h1, h2, h3⟩ := h
  exact ⟨cell, h1, State.isArrayOf_alike hvm h2, h3⟩
theorem mm_T.mono {ty : FieldType} {t N : Nat} {f : Nat → Value} {U : State} {P R : mm_H} (h : mm_T ty t N f U P) (k : mm_le P R) : mm_T ty t N f U R := by
  obtain ⟨cell, h1, h2⟩ := h
  exact ⟨cell, k _ _ h1, h2⟩
/-- an object that is only read (a constant, or one of ours) -/
def mm_rb (G : va_G × (Nat → ClassId) × (Nat → Nat)) (P : mm_H) (a ci : Nat) (fs : List Value) : Prop := ∃ (r : vw_C) (cell : Cell), mm_cl[ci]? = some r ∧ P a = some cell ∧ cell.cls = G.1.1 ci ∧ cell.vm ≠ .unknown ∧ cell.vm.isStatics = false ∧ ∀ k, k < r.2.2 → cell.slots[G.1.2 ci k]? = some (vp_V fs k)
theorem mm_rb.mono {G : va_G × (Nat → ClassId) × (Nat → Nat)} {P R : mm_H} {a ci : Nat} {fs : List Value} (h : mm_rb G P a ci fs) (k : mm_le P R) : mm_rb G R a ci fs := by
  obtain ⟨r, cell, h1, h2, h3⟩ := h
  exact ⟨r, cell, h1, k _ _ h2, h3⟩
end MMB
section MMC
/-- the String constants: owner, entry, text -/
abbrev mm_sl : List (String × Nat × String) := [("VectorVersions$Parser", 22, ""), ("VectorVersions$Parser", 95, "minus"), ("VectorVersions$Parser", 107, "list"), ("VectorVersions$Parser", 147, "set"), ("VectorVersions$Parser", 149, "append"), ("VectorVersions$Parser", 150, "truncate"), ("VectorVersions$Parser", 152, "release"), ("VectorVersions$Parser", 154, "collect"),
  ("VectorVersionsModel", 236, "minus"), ("VectorVersionsModel", 245, "list"), ("VectorVersionsModel", 266, "set"), ("VectorVersionsModel", 268, "append"), ("VectorVersionsModel", 270, "truncate"), ("VectorVersionsModel", 272, "release"), ("VectorVersionsModel", 274, "collect")]
def mm_sb : List (List Nat) := [[], [109, 105, 110, 117, 115], [108, 105, 115, 116], [115, 101, 116], [97, 112, 112, 101, 110, 100], [116, 114, 117, 110, 99, 97, 116, 101], [114, 101, 108, 101, 97, 115, 101], [99, 111, 108, 108, 101, 99, 116], [109, 105, 110, 117, 115], [108, 105, 115, 116], [115, 101, 116], [97, 112, 112, 101, 110, 100], [116, 114, 117, 110, 99, 97, 116, 101], [114, 101, 108, 101, 97, 115, 101], [99, 111, 108, 108, 101, 99, 116]]
/-- a String that is only read, of n signs t (below 128), its bytes in the array v -/
def mm_str (G : mm_G) (P : mm_H) (U : State) (a v n : Nat) (t : Nat → Nat) (h z : Int32) : Prop := mm_rb G P a 19 [.ref v, .int 0, .int h, .int z] ∧ mm_T .byte v n (fun j => .int (nI (t j))) U P
def mm_S (G : mm_G) (P : mm_H) (U : State) : Prop := ∀ i, i < 15 → ∃ (h z : Int32) (r : String × Nat × String), mm_sl[i]? = some r ∧ vk_R r.1 r.2.1 r.2.2 (G.2.2 (400 + i)) U ∧ mm_str G P U (G.2.2 (400 + i)) (G.2.2 (500 + i)) (mm_sb.getD i []).length (fun j => (mm_sb.getD i []).getD j 0) h z ∧ (i = 0 → h = 0 ∧ z = 1)
/-- decimal digits' tables -/
def mm_D (G : mm_G) (P : mm_H) (U : State) : Prop := mm_z "java/lang/Integer" "DigitOnes" "[B" (.ref (G.2.2 3)) U P ∧ mm_T .byte (G.2.2 3) 100 (fun j => .int (nI (48 + j % 10))) U P ∧ mm_z "java/lang/Integer" "DigitTens" "[B" (.ref (G.2.2 4)) U P ∧ mm_T .byte (G.2.2 4) 100 (fun j => .int (nI (48 + j / 10))) U P
def mm_I (G : mm_G) (P : mm_H) (U : State) : Prop := mm_z "java/lang/Integer$IntegerCache" "high" "I" (.int 127) U P ∧ mm_z "java/lang/Integer$IntegerCache" "cache" "[Ljava/lang/Integer;" (.ref (G.2.2 2)) U P ∧ mm_T (.object "java/lang/Integer") (G.2.2 2) 256 (fun k => .ref (G.2.2 (1000 + k))) U P ∧ ∀ k, k < 256 → mm_rb G P (G.2.2 (1000 + k)) 20 [.int (vb_c k)]
def mm_L (G : mm_G) (P : mm_H) (U : State) : Prop := mm_z "java/util/ArrayList" "DEFAULTCAPACITY_EMPTY_ELEMENTDATA" "[Ljava/lang/Object;" (.ref (G.2.2 0)) U P ∧ mm_T (.object "java/lang/Object") (G.2.2 0) 0 (fun _ => .null) U P ∧ mm_z "java/util/ArrayList" "EMPTY_ELEMENTDATA" "[Ljava/lang/Object;" (.ref (G.2.2 1)) U P ∧ mm_T (.object "java/lang/Object") (G.2.2 1) 0 (fun _ => .null) U P ∧ G.2.2 0 ≠ G.2.2 1 ∧ va_Mi "[Ljava/lang/Object;" (G.2.2 5) U
def mm_lay (C n d : String) (U : State) (P : mm_H) : Prop := ∃ (c : ClassId) (k : Class) (i : Nat) (f : Field) (a : Nat) (cell : Cell), U.vm.findClass C = some c ∧ U.fieldFound? C n d = some (c, k, i, f) ∧ f.isStatic = true ∧ k.statics = some a ∧ P a = some cell ∧ cell.vm.isStatics = true ∧ cell.cls = c ∧ f.slot < cell.slots.size ∧ k.staticTypes[f.slot]? = some f.type
theorem mm_lay.moved {C n d : String} {u U : State} {P : mm_H} (hvm : u.vm.Alike U.vm) (h : mm_lay C n d u P) : mm_lay C n d U P := by
  obtain ⟨c, k, i, f, a, cell, h1, h2, h3, h4, h5, h6, h7, h8, h9⟩ := h
  obtain ⟨k', hi', he⟩ := State.fieldFound?_setVm hvm h2
  exact ⟨c, k', i, f, a, cell, by rw [hvm.findClass]; exact h1, hi', h3, by rw [he]; exact h4, h5, h6, h7, h8, by rw [he]; exact h9⟩
theorem mm_lay.mono {C n d : String} {U : State} {P R : mm_H} (h : mm_lay C n d U P) (q : mm_le P R) : mm_lay C n d U R := by
  obtain ⟨c, k, i, f, a, cell, h1, h2, h3, h4, h5, h6⟩ := h
  exact ⟨c, k, i, f, a, cell, h1, h2, h3, h4, q _ _ h5, h6⟩
def mm_zx (C n d : String) (U : State) (P : mm_H) : Prop := (mm_z C n d .null U P ∨ ∃ t : Nat, mm_z C n d (.ref t) U P) ∧ mm_lay C n d U P
theorem mm_zx.moved {C n d : String} {u U : State} {P : mm_H} (hvm : u.vm.Alike U.vm) (h : mm_zx C n d u P) : mm_zx C n d U P := ⟨h.1.imp (mm_z.moved hvm) (fun ⟨t, z⟩ => ⟨t, z.moved hvm⟩), h.2.moved hvm⟩
theorem mm_zx.mono {C n d : String} {U : State} {P R : mm_H} (h : mm_zx C n d U P) (q : mm_le P R) : mm_zx C n d U R := ⟨h.1.imp (fun z => z.mono q) (fun ⟨t, z⟩ => ⟨t, z.mono q⟩), h.2.mono q⟩
theorem mm_zx.at {C n d : String} {U : State} {P : mm_H} {H : Heap} {A : Nat → Prop} (h : mm_zx C n d U P) (hF : mm_le P (mm_h H)) (hA : ∀ q, A q → P q = none) : vx_Zq C n d A U H := by
  refine ⟨h.1.imp (fun z => z.at hF hA) (fun ⟨t, z⟩ => ⟨t, z.at hF hA⟩), ?_⟩
  obtain ⟨c, k, i, f, a, cell, h1, h2, h3, h4, h5, h6, h7, h8, h9⟩ := h.2
  exact ⟨c, k, i, f, a, cell, h1, h2, h3, h4, hF.at h5, h6, h7, h8, h9, fun z => by rw [hA a z] at h5; cases h5⟩
def mm_X (P : mm_H) (U : State) : Prop := mm_zx Bundle.tN "UNASSIGNED_STACK" Bundle.steD U P ∧ mm_zx Bundle.tN "SUPPRESSED_SENTINEL" Bundle.listD U P ∧ mm_zx "jdk/internal/util/Preconditions" "SIOOBE_FORMATTER" "Ljava/util/function/BiFunction;" U P
/-- ALL THAT A METHOD MAY TAKE OF THE MACHINE: classes, links, statics, constants -/
def KK (G : mm_G) (P : mm_H) (U : State) : Prop := va_K G.1 mm_cl (mm_ty G) U ∧ mm_W U ∧ va_AO "java/lang/Object" U ∧ mm_F U ∧ mm_z "java/lang/String" "COMPACT_STRINGS" "Z" (.int 1) U P ∧ mm_I G P U ∧ mm_L G P U ∧ mm_D G P U ∧ mm_S G P U ∧ mm_X P U
theorem mm_str.moved {G : mm_G} {P : mm_H} {u U : State} {a v n : Nat} {t : Nat → Nat} {h z : Int32} (hvm : u.vm.Alike U.vm) (k : mm_str G P u a v n t h z) : mm_str G P U a v n t h z := ⟨k.1, k.2.moved hvm⟩
theorem mm_str.mono {G : mm_G} {P R : mm_H} {U : State} {a v n : Nat} {t : Nat → Nat} {h z : Int32} (k : mm_str G P U a v n t h z) (q : mm_le P R) : mm_str G R U a v n t h z := ⟨k.1.mono q, k.2.mono q⟩
theorem KK.moved {G : mm_G} {P : mm_H} {s U : State} (hW : s.WarmedH U.vm) (h : KK G P s) : KK G P U := by
  obtain ⟨k1, k2, k3, k4, k5, ⟨i1, i2, i3, i4⟩, ⟨l1, l2, l3, l4, l5⟩, ⟨d1, d2, d3, d4⟩, k9, ⟨x1, x2, x3⟩⟩ := h
  have hv := hW.alike
  refine ⟨k1.moved hv, k2.moved hW, k3.moved hv, k4.moved hv, k5.moved hv, ⟨i1.moved hv, i2.moved hv, i3.moved hv, i4⟩, ⟨l1.moved hv, l2.moved hv, l3.moved hv, l4.moved hv, l5.1, l5.2.moved hv⟩, ⟨d1.moved hv, d2.moved hv, d3.moved hv, d4.moved hv⟩, ?_, ⟨x1.moved hv, x2.moved hv, x3.moved hv⟩⟩
  intro i hi
  obtain ⟨a, z, r, h1, h2, h3, h4⟩ := k9 i hi
  exact ⟨a, z, r, h1, h2.warm hW, h3.moved hv, h4⟩
theorem KK.mono {G : mm_G} {P R : mm_H} {s : State} (h : KK G P s) (q : mm_le P R) : KK G R s := by
  obtain ⟨k1, k2, k3, k4, k5, ⟨i1, i2, i3, i4⟩, ⟨l1, l2, l3, l4, l5⟩, ⟨d1, d2, d3, d4⟩, k9, ⟨x1, x2, x3⟩⟩ := h
  refine ⟨k1, k2, k3, k4, k5.mono q, ⟨i1.mono q, i2.mono q, i3.mono q, fun k hk => (i4 k hk).mono q⟩, ⟨l1.mono q, l2.mono q, l3.mono q, l4.mono q, l5⟩, ⟨d1.mono q, d2.mono q, d3.mono q, d4.mono q⟩, ?_, ⟨x1.mono q, x2.mono q, x3.mono q⟩⟩
  intro i hi
  obtain ⟨a, z, r, h1, h2, h3, h4⟩ := k9 i hi
  exact ⟨a, z, r, h1, h2, h3.mono q, h4⟩
/-- a state with the same tables -/
theorem KK.calling {G : mm_G} {P : mm_H} {U : State} (h : KK G P U) (g : JFrame) (mk : MethodId) (a : Array Value) : KK G P (U.calling g mk a) := by
  refine KK.moved (s := U) (U := U.calling g mk a) (?_ : U.WarmedH U.vm) h
  exact State.WarmedH.refl U
theorem KK.K {G : mm_G} {P : mm_H} {U : State} (h : KK G P U) : va_K G.1 mm_cl (mm_ty G) U := h.1
theorem KK.W {G : mm_G} {P : mm_H} {U : State} (h : KK G P U) : mm_W U := h.2.1
theorem KK.AO {G : mm_G} {P : mm_H} {U : State} (h : KK G P U) : va_AO "java/lang/Object" U := h.2.2.1
theorem KK.F {G : mm_G} {P : mm_H} {U : State} (h : KK G P U) : mm_F U := h.2.2.2.1
theorem KK.cs {G : mm_G} {P : mm_H} {U : State} (h : KK G P U) : mm_z "java/lang/String" "COMPACT_STRINGS" "Z" (.int 1) U P := h.2.2.2.2.1
theorem KK.I {G : mm_G} {P : mm_H} {U : State} (h : KK G P U) : mm_I G P U := h.2.2.2.2.2.1
theorem KK.L {G : mm_G} {P : mm_H} {U : State} (h : KK G P U) : mm_L G P U := h.2.2.2.2.2.2.1
theorem KK.D {G : mm_G} {P : mm_H} {U : State} (h : KK G P U) : mm_D G P U := h.2.2.2.2.2.2.2.1
theorem KK.S {G : mm_G} {P : mm_H} {U : State} (h : KK G P U) : mm_S G P U := h.2.2.2.2.2.2.2.2.1
theorem KK.X {G : mm_G} {P : mm_H} {U : State} (h : KK G P U) : mm_X P U := h.2.2.2.2.2.2.2.2.2
end MMC
section MMD
/-! a method's start, its end, its contract -/
def mm_Pc (G : mm_G) (P : mm_H) (H : Heap) (av : List Value) : Array Value → State → Prop := fun v U => v = av.toArray ∧ U.heap = H ∧ KK G P U
def mm_Qc (H : Heap) (M : Nat → Prop) (post : Option Value → Heap → Prop) : Array Value → State → Outcome → State → Prop := fun _ _ o t => (∃ r, o = .returned r ∧ post r t.heap) ∧ H.size ≤ t.heap.size ∧ ∀ q, q < H.size → ¬ M q → t.heap[q]? = H[q]?
def mm_A (M : Nat → Prop) (H : Heap) : Nat → Prop := fun q => M q ∨ H.size ≤ q
def mm_0 : Nat → Prop := fun _ => False
def mm_rm (f lo mc ms : Nat) : Room := { frames := f, cells := mc, slots := ms, locals := lo }
def Mt (l : Launch) (y : MethodName) (ws : List Cond) (f lo mc ms : Nat) (G : mm_G) (P : mm_H) (av : List Value) (H : Heap) (M : Nat → Prop) (post : Option Value → Heap → Prop) : Prop :=
  Met l y ws (mm_rm f lo mc ms) (mm_Pc G P H av) (mm_Qc H M post) mc ms (mm_A M H)
/-- kinds of answers -/
def mm_i (x : Int32) (B : Heap → Prop) : Option Value → Heap → Prop := fun r H => r = some (.int x) ∧ B H
def mm_v (B : Heap → Prop) : Option Value → Heap → Prop := fun r H => r = none ∧ B H
def mm_r (B : Nat → Heap → Prop) : Option Value → Heap → Prop := fun r H => ∃ a, r = some (.ref a) ∧ B a H
def mm_q (B : Option Nat → Heap → Prop) : Option Value → Heap → Prop := fun r H => ∃ a, r = some (va_rf a) ∧ B a H
/-- nothing is changed, nothing made -/
def mm_pu (v : Value) (H0 : Heap) : Option Value → Heap → Prop := fun r H => r = some v ∧ H = H0
theorem mm_fb {G : mm_G} {P : mm_H} {H : Heap} {av : List Value} : FrameBlind (mm_Pc G P H av) := fun _ _ g mk h => ⟨h.1, h.2.1, h.2.2.calling g mk _⟩
theorem mm_pS {G : mm_G} {P : mm_H} {H : Heap} {s : State} {As : List Value} (hKK : KK G P s) : PreS s H (mm_Pc G P H As) As := ⟨mm_fb, fun U hU hW => ⟨rfl, hU, hKK.moved hW⟩⟩
theorem mm_pV {G : mm_G} {P : mm_H} {H : Heap} {s : State} {C : String} {b : Nat} {As : List Value} (hKK : KK G P s) (hr : ∃ cellB : Cell, H[b]? = some cellB ∧ cellB.vm.isStatics = false ∧ s.vm.findClass C = some cellB.cls) : PreV s H C b (mm_Pc G P H (.ref b :: As)) As := ⟨mm_fb, hr, fun U hU hW => ⟨rfl, hU, hKK.moved hW⟩⟩
/-- a receiver, out of what its cell is -/
theorem mm_rc {G : mm_G} {P Q : mm_H} {H : Heap} {s : State} {b ci : Nat} {fs : List Value} {r : vw_C} (hKK : KK G P s) (h : mm_ob G Q b ci fs) (hF : mm_le Q (mm_h H)) (hc : mm_cl[ci]? = some r) : ∃ cellB : Cell, H[b]? = some cellB ∧ cellB.vm.isStatics = false ∧ s.vm.findClass r.1 = some cellB.cls := by
  obtain ⟨r', cell, h1, h2, h3, h4, -⟩ := h
  exact ⟨cell, hF.at h2, by rw [h4]; rfl, by rw [h3]; exact (hKK.K.1 ci r hc).2.1⟩
theorem mm_rcb {G : mm_G} {P Q : mm_H} {H : Heap} {s : State} {b ci : Nat} {fs : List Value} {r : vw_C} (hKK : KK G P s) (h : mm_rb G Q b ci fs) (hF : mm_le Q (mm_h H)) (hc : mm_cl[ci]? = some r) : ∃ cellB : Cell, H[b]? = some cellB ∧ cellB.vm.isStatics = false ∧ s.vm.findClass r.1 = some cellB.cls := by
  obtain ⟨r', cell, h1, h2, h3, h4, h5, -⟩ := h
  exact ⟨cell, hF.at h2, h5, by rw [h3]; exact (hKK.K.1 ci r hc).2.1⟩
theorem mm_ob.rb {G : mm_G} {P : mm_H} {a ci : Nat} {fs : List Value} (h : mm_ob G P a ci fs) : mm_rb G P a ci fs := by
  obtain ⟨r, cell, h1, h2, h3, h4, h5⟩ := h
  exact ⟨r, cell, h1, h2, h3, (by rw [h4]; intro z; cases z), (by rw [h4]; rfl), h5⟩
/-- a proof of a contract: the walk from the method's entry -/
theorem Mt.of {l : Launch} {y : MethodName} {cc : ByteArray} {nL : Nat} {ret : Option FieldType} {f lo mc ms : Nat} {G : mm_G} {P : mm_H} {av : List Value} {H : Heap} {M : Nat → Prop} {post : Option Value → Heap → Prop} (hy : plainName y.cls = true) (hn : (lg_sl av).length ≤ nL)
    (body : ∀ (p : Program) (e : Env) (s : State) (m : MethodId) (below : List Frame) (meth : Method) (c : Code) (ls : Array Slot), p.tables.exec = Jvm.exec → c.code = cc → meth.sig.returnType = ret → meth.locks = false → c.maxLocals = nL → s.vm.findClass y.cls = some m.cls → meth.name = y.name → (∀ w ∈ lw_all, w.before av.toArray s = true) → KK G P s → s.heap = H → lv_has ls nL (lv_args 0 av) → va_S (mm_A M H) H H [] →
      W p l e (mm_rm f lo mc ms) s m av.toArray below meth c H [] 0 0 (MQ below (mm_Qc H M post) av.toArray s mc ms (mm_A M H)) (F0 m 0 ls [])) : Mt l y (ws_ y cc nL ret) f lo mc ms G P av H M post := by
  refine Met.ofW (cc := cc) (maxL := nL) (ret := ret) hy rfl ?_
  intro p e s m args below meth c s₁ B hml hv
  obtain ⟨rfl, hH, hKK⟩ := hv
  have hts := atoms_spec (ws := ws_ y cc nL ret) B.pre
  rw [lg_entry_eq, hH]
  exact body p e s m below meth c _ B.exec B.bytes B.returns B.notSynchronized hml (findClass_of_methodNamed B.named) (name_of_methodNamed B.named B.method).1 (fun w h => hts w (List.mem_cons_of_mem _ h)) hKK hH (lv_entry av hn) va_S.rf
end MMD
section MME
variable {p : Program} {l : Launch} {e : Env} {R : Room} {s : State} {m : MethodId} {args : Array Value} {below : List Frame} {meth : Method} {c : Code} {H : Heap} {locs : List Loc} {cells slots : Nat} {Q : State → Prop}
variable {cc : ByteArray} {pc : Nat} {ls : Array Slot} {rest st0 : List Value} {a : Array Value} {A : Nat → Prop} {H0 : Heap} {mc ms : Nat} {M : Nat → Prop} {post : Option Value → Heap → Prop}
/-! behind a call -/
theorem mm_run (hr : va_Run p l e R s m args below meth c H locs cells slots mc ms (F0 m pc ls st0) rest (mm_Qc H M post a) (mm_A M H)) (hS : va_S A H0 H locs) (hA : ∀ q, mm_A M H q → A q)
    (kk : ∀ (r : Option Value) (H1 : Heap) (locs1 : List Loc), post r H1 → H.size ≤ H1.size → (∀ q : Nat, q < H.size → ¬ M q → H1[q]? = H[q]?) → va_S A H0 H1 locs1 → W p l e R s m args below meth c H1 locs1 (cells + mc) (slots + ms) Q (F0 m (pc + 3) ls (r.toList ++ rest))) : W p l e R s m args below meth c H locs cells slots Q (F0 m pc ls st0) := by
  intro T hT X
  obtain ⟨v, st₀, t, T', L, h0, X', hL, e1, e2, ⟨⟨r, hv, hp⟩, hz, hk⟩, st⟩ := hr T hT X
  cases hv
  obtain ⟨t2, a1, b1⟩ := kk v T'.heap (locs ++ L) (by rw [e1]; exact hp) (by rw [e1]; exact hz) (fun q h1 h2 => by rw [e1]; exact hk q h1 h2)
    ⟨Nat.le_trans hS.1 (by rw [e1]; exact hz), fun q h1 h2 => by rw [e1, hk q (Nat.lt_of_lt_of_le h1 hS.1) (fun z => h2 (hA q (Or.inl z)))]; exact hS.2.1 q h1 h2, fun q hq => by
      rcases List.mem_append.mp hq with h | h
      · exact hS.2.2 q h
      · exact hA _ (hL q h)⟩ T' rfl X'
  exact ⟨t2, st t2 a1, b1⟩
theorem mm_run5 (hr : va_Run5 p l e R s m args below meth c H locs cells slots mc ms (F0 m pc ls st0) rest (mm_Qc H M post a) (mm_A M H)) (hS : va_S A H0 H locs) (hA : ∀ q, mm_A M H q → A q)
    (kk : ∀ (r : Option Value) (H1 : Heap) (locs1 : List Loc), post r H1 → H.size ≤ H1.size → (∀ q : Nat, q < H.size → ¬ M q → H1[q]? = H[q]?) → va_S A H0 H1 locs1 → W p l e R s m args below meth c H1 locs1 (cells + mc) (slots + ms) Q (F0 m (pc + 5) ls (r.toList ++ rest))) : W p l e R s m args below meth c H locs cells slots Q (F0 m pc ls st0) := by
  intro T hT X
  obtain ⟨v, st₀, t, T', L, h0, X', hL, e1, e2, ⟨⟨r, hv, hp⟩, hz, hk⟩, st⟩ := hr T hT X
  cases hv
  obtain ⟨t2, a1, b1⟩ := kk v T'.heap (locs ++ L) (by rw [e1]; exact hp) (by rw [e1]; exact hz) (fun q h1 h2 => by rw [e1]; exact hk q h1 h2)
    ⟨Nat.le_trans hS.1 (by rw [e1]; exact hz), fun q h1 h2 => by rw [e1, hk q (Nat.lt_of_lt_of_le h1 hS.1) (fun z => h2 (hA q (Or.inl z)))]; exact hS.2.1 q h1 h2, fun q hq => by
      rcases List.mem_append.mp hq with h | h
      · exact hS.2.2 q h
      · exact hA _ (hL q h)⟩ T' rfl X'
  exact ⟨t2, st t2 a1, b1⟩
/-- an answer that changes nothing -/
theorem mm_rpu {v : Value} (hr : va_Run p l e R s m args below meth c H locs cells slots mc ms (F0 m pc ls st0) rest (mm_Qc H M (mm_pu v H) a) (mm_A M H)) (hS : va_S A H0 H locs) (hA : ∀ q, mm_A M H q → A q)
    (kk : ∀ locs1 : List Loc, va_S A H0 H locs1 → W p l e R s m args below meth c H locs1 (cells + mc) (slots + ms) Q (F0 m (pc + 3) ls (v :: rest))) : W p l e R s m args below meth c H locs cells slots Q (F0 m pc ls st0) := by
  refine mm_run hr hS hA fun r H1 locs1 hp _ _ hS1 => ?_
  obtain ⟨rfl, rfl⟩ := hp
  exact kk locs1 hS1
theorem mm_rpu5 {v : Value} (hr : va_Run5 p l e R s m args below meth c H locs cells slots mc ms (F0 m pc ls st0) rest (mm_Qc H M (mm_pu v H) a) (mm_A M H)) (hS : va_S A H0 H locs) (hA : ∀ q, mm_A M H q → A q)
    (kk : ∀ locs1 : List Loc, va_S A H0 H locs1 → W p l e R s m args below meth c H locs1 (cells + mc) (slots + ms) Q (F0 m (pc + 5) ls (v :: rest))) : W p l e R s m args below meth c H locs cells slots Q (F0 m pc ls st0) := by
  refine mm_run5 hr hS hA fun r H1 locs1 hp _ _ hS1 => ?_
  obtain ⟨rfl, rfl⟩ := hp
  exact kk locs1 hS1
/-- an int, with a heap -/
theorem mm_ri {x : Int32} {B : Heap → Prop} (hr : va_Run p l e R s m args below meth c H locs cells slots mc ms (F0 m pc ls st0) rest (mm_Qc H M (mm_i x B) a) (mm_A M H)) (hS : va_S A H0 H locs) (hA : ∀ q, mm_A M H q → A q)
    (kk : ∀ (H1 : Heap) (locs1 : List Loc), B H1 → H.size ≤ H1.size → (∀ q : Nat, q < H.size → ¬ M q → H1[q]? = H[q]?) → va_S A H0 H1 locs1 → W p l e R s m args below meth c H1 locs1 (cells + mc) (slots + ms) Q (F0 m (pc + 3) ls (.int x :: rest))) : W p l e R s m args below meth c H locs cells slots Q (F0 m pc ls st0) := by
  refine mm_run hr hS hA fun r H1 locs1 hp hz hk hS1 => ?_
  obtain ⟨rfl, hB⟩ := hp
  exact kk H1 locs1 hB hz hk hS1
theorem mm_ri5 {x : Int32} {B : Heap → Prop} (hr : va_Run5 p l e R s m args below meth c H locs cells slots mc ms (F0 m pc ls st0) rest (mm_Qc H M (mm_i x B) a) (mm_A M H)) (hS : va_S A H0 H locs) (hA : ∀ q, mm_A M H q → A q)
    (kk : ∀ (H1 : Heap) (locs1 : List Loc), B H1 → H.size ≤ H1.size → (∀ q : Nat, q < H.size → ¬ M q → H1[q]? = H[q]?) → va_S A H0 H1 locs1 → W p l e R s m args below meth c H1 locs1 (cells + mc) (slots + ms) Q (F0 m (pc + 5) ls (.int x :: rest))) : W p l e R s m args below meth c H locs cells slots Q (F0 m pc ls st0) := by
  refine mm_run5 hr hS hA fun r H1 locs1 hp hz hk hS1 => ?_
  obtain ⟨rfl, hB⟩ := hp
  exact kk H1 locs1 hB hz hk hS1
theorem mm_rv {B : Heap → Prop} (hr : va_Run p l e R s m args below meth c H locs cells slots mc ms (F0 m pc ls st0) rest (mm_Qc H M (mm_v B) a) (mm_A M H)) (hS : va_S A H0 H locs) (hA : ∀ q, mm_A M H q → A q)
    (kk : ∀ (H1 : Heap) (locs1 : List Loc), B H1 → H.size ≤ H1.size → (∀ q : Nat, q < H.size → ¬ M q → H1[q]? = H[q]?) → va_S A H0 H1 locs1 → W p l e R s m args below meth c H1 locs1 (cells + mc) (slots + ms) Q (F0 m (pc + 3) ls rest)) : W p l e R s m args below meth c H locs cells slots Q (F0 m pc ls st0) := by
  refine mm_run hr hS hA fun r H1 locs1 hp hz hk hS1 => ?_
  obtain ⟨rfl, hB⟩ := hp
  exact kk H1 locs1 hB hz hk hS1
theorem mm_rv5 {B : Heap → Prop} (hr : va_Run5 p l e R s m args below meth c H locs cells slots mc ms (F0 m pc ls st0) rest (mm_Qc H M (mm_v B) a) (mm_A M H)) (hS : va_S A H0 H locs) (hA : ∀ q, mm_A M H q → A q)
    (kk : ∀ (H1 : Heap) (locs1 : List Loc), B H1 → H.size ≤ H1.size → (∀ q : Nat, q < H.size → ¬ M q → H1[q]? = H[q]?) → va_S A H0 H1 locs1 → W p l e R s m args below meth c H1 locs1 (cells + mc) (slots + ms) Q (F0 m (pc + 5) ls rest)) : W p l e R s m args below meth c H locs cells slots Q (F0 m pc ls st0) := by
  refine mm_run5 hr hS hA fun r H1 locs1 hp hz hk hS1 => ?_
  obtain ⟨rfl, hB⟩ := hp
  exact kk H1 locs1 hB hz hk hS1
theorem mm_rr {B : Nat → Heap → Prop} (hr : va_Run p l e R s m args below meth c H locs cells slots mc ms (F0 m pc ls st0) rest (mm_Qc H M (mm_r B) a) (mm_A M H)) (hS : va_S A H0 H locs) (hA : ∀ q, mm_A M H q → A q)
    (kk : ∀ (x : Nat) (H1 : Heap) (locs1 : List Loc), B x H1 → H.size ≤ H1.size → (∀ q : Nat, q < H.size → ¬ M q → H1[q]? = H[q]?) → va_S A H0 H1 locs1 → W p l e R s m args below meth c H1 locs1 (cells + mc) (slots + ms) Q (F0 m (pc + 3) ls (.ref x :: rest))) : W p l e R s m args below meth c H locs cells slots Q (F0 m pc ls st0) := by
  refine mm_run hr hS hA fun r H1 locs1 hp hz hk hS1 => ?_
  obtain ⟨x, rfl, hB⟩ := hp
  exact kk x H1 locs1 hB hz hk hS1
theorem mm_rr5 {B : Nat → Heap → Prop} (hr : va_Run5 p l e R s m args below meth c H locs cells slots mc ms (F0 m pc ls st0) rest (mm_Qc H M (mm_r B) a) (mm_A M H)) (hS : va_S A H0 H locs) (hA : ∀ q, mm_A M H q → A q)
    (kk : ∀ (x : Nat) (H1 : Heap) (locs1 : List Loc), B x H1 → H.size ≤ H1.size → (∀ q : Nat, q < H.size → ¬ M q → H1[q]? = H[q]?) → va_S A H0 H1 locs1 → W p l e R s m args below meth c H1 locs1 (cells + mc) (slots + ms) Q (F0 m (pc + 5) ls (.ref x :: rest))) : W p l e R s m args below meth c H locs cells slots Q (F0 m pc ls st0) := by
  refine mm_run5 hr hS hA fun r H1 locs1 hp hz hk hS1 => ?_
  obtain ⟨x, rfl, hB⟩ := hp
  exact kk x H1 locs1 hB hz hk hS1
theorem mm_rq {B : Option Nat → Heap → Prop} (hr : va_Run p l e R s m args below meth c H locs cells slots mc ms (F0 m pc ls st0) rest (mm_Qc H M (mm_q B) a) (mm_A M H)) (hS : va_S A H0 H locs) (hA : ∀ q, mm_A M H q → A q)
    (kk : ∀ (x : Option Nat) (H1 : Heap) (locs1 : List Loc), B x H1 → H.size ≤ H1.size → (∀ q : Nat, q < H.size → ¬ M q → H1[q]? = H[q]?) → va_S A H0 H1 locs1 → W p l e R s m args below meth c H1 locs1 (cells + mc) (slots + ms) Q (F0 m (pc + 3) ls (va_rf x :: rest))) : W p l e R s m args below meth c H locs cells slots Q (F0 m pc ls st0) := by
  refine mm_run hr hS hA fun r H1 locs1 hp hz hk hS1 => ?_
  obtain ⟨x, rfl, hB⟩ := hp
  exact kk x H1 locs1 hB hz hk hS1
end MME
