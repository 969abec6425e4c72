/-! MY ROWS: fields, arrays, new, statics, answers -/
section MRA
variable {p : Program} {l : Launch} {e : Env} {R : Room} {s : State} {m : MethodId} {args : Array Value} {below : List Frame} {meth : Method} {c : Code} {H : Heap} {locs : List Loc} {cells slots : Nat} {Q : State → Prop}
variable {cc : ByteArray} {pc : Nat} {ls : Array Slot} {rest : List Value} {A : Nat → Prop} {H0 : Heap} {G : mm_G} {P F : mm_H} {a : Nat}
theorem mm_get (hx : p.tables.exec = Jvm.exec) (hb : c.code = cc) {own ref C : String} {T : u_T} {N ci index : Nat} (hts : ∀ w ∈ lw_all, w.before args s = true) (hin : ∀ w ∈ u_ws C T N, w ∈ lw_all) (hown : s.vm.findClass own = some m.cls) (hKK : KK G P s) {fs : List Value} (hO : mm_rb G F a ci fs) (hF : mm_le F (mm_h H)) (hc : mm_cl[ci]? = some (C, T, N)) (k : Nat) (hk : k < N) (hlink : (Cond.fieldLink own index ref (T k).2.1 (T k).2.2.1).before args s = true) (hsame : ∀ x, s.fieldFound? (T k).1 (T k).2.1 (T k).2.2.1 = some x → s.fieldFound? ref (T k).2.1 (T k).2.2.1 = some x) {v : Value} (hv : fs[k]? = some v) (hdg : decode cc pc = .ok (.getfield index, 3))
    (kk : W p l e R s m args below meth c H locs cells slots Q (F0 m (pc + 3) ls (v :: rest))) : W p l e R s m args below meth c H locs cells slots Q (F0 m pc ls (.ref a :: rest)) := by
  obtain ⟨r, cell, h1, q1, q2, q3, q4, q5⟩ := hO
  have hr : r = (C, T, N) := Option.some.inj (h1.symm.trans hc)
  subst hr
  obtain ⟨hS, hfc, kC, hkC, hkind⟩ := hKK.K.1 ci _ hc
  obtain ⟨cf, kf, fi, f, hi, hsl⟩ := hS k hk
  refine W.getf hx hb hown hlink (hsame _ hi) (u_facts hfc hkC (u_lays hts hin hk) hi).1 (hF.at q1) q3 (v := v) ?_ rfl rfl hdg kk
  rw [hsl, q5 k hk]
  simp [vp_V, hv]
theorem mm_getN (hx : p.tables.exec = Jvm.exec) (hb : c.code = cc) {own ref C host : String} {T : u_T} {N ci index : Nat} (hts : ∀ w ∈ lw_all, w.before args s = true) (hin : ∀ w ∈ u_ws C T N, w ∈ lw_all) (hown : s.vm.findClass own = some m.cls) (hKK : KK G P s) {fs : List Value} (hO : mm_rb G F a ci fs) (hF : mm_le F (mm_h H)) (hc : mm_cl[ci]? = some (C, T, N)) (k : Nat) (hk : k < N) (hlink : Cond.fieldLinkNest own index ref (T k).2.1 (T k).2.2.1 host ∈ lw_tbl) (hsame : ∀ x, s.fieldFound? (T k).1 (T k).2.1 (T k).2.2.1 = some x → s.fieldFound? ref (T k).2.1 (T k).2.2.1 = some x) {v : Value} (hv : fs[k]? = some v) (hdg : decode cc pc = .ok (.getfield index, 3))
    (kk : W p l e R s m args below meth c H locs cells slots Q (F0 m (pc + 3) ls (v :: rest))) : W p l e R s m args below meth c H locs cells slots Q (F0 m pc ls (.ref a :: rest)) := by
  obtain ⟨r, cell, h1, q1, q2, q3, q4, q5⟩ := hO
  have hr : r = (C, T, N) := Option.some.inj (h1.symm.trans hc)
  subst hr
  obtain ⟨hS, hfc, kC, hkC, hkind⟩ := hKK.K.1 ci _ hc
  obtain ⟨cf, kf, fi, f, hi, hsl⟩ := hS k hk
  refine va_Wgetf hx hb hown (va_Nw.use rfl (hKK.W.use hlink rfl)) (hsame _ hi) (u_facts hfc hkC (u_lays hts hin hk) hi).1 (hF.at q1) q3 (v := v) ?_ rfl rfl hdg kk
  rw [hsl, q5 k hk]
  simp [vp_V, hv]
theorem mm_put (hx : p.tables.exec = Jvm.exec) (hb : c.code = cc) {own ref C : String} {T : u_T} {N ci index : Nat} (hts : ∀ w ∈ lw_all, w.before args s = true) (hin : ∀ w ∈ u_ws C T N, w ∈ lw_all) (ty0 : Nat → FieldType) (hty : ∀ k, k < N → parseFieldDescriptor (T k).2.2.1 = some (ty0 k)) (hnm : ∀ a, a < N → ∀ b, b < N → a ≠ b → (T a).2.1 ≠ (T b).2.1) (hown : s.vm.findClass own = some m.cls) (hKK : KK G P s) {fs : List Value} (hO : mm_ob G (mm_h H) a ci fs) (hS0 : va_S A H0 H locs) (hA : A a) (hc : mm_cl[ci]? = some (C, T, N)) (k : Nat) (hk : k < N) (hlink : (Cond.fieldLink own index ref (T k).2.1 (T k).2.2.1).before args s = true) (hsame : ∀ x, s.fieldFound? (T k).1 (T k).2.1 (T k).2.2.1 = some x → s.fieldFound? ref (T k).2.1 (T k).2.2.1 = some x) (hfin : (T k).2.2.2 = false) {ty : FieldType} {v : Value} (hd : parseFieldDescriptor (T k).2.2.1 = some ty) (hn : narrow ty v = v) (hfit : fits ty v = true) (hl : k < fs.length) (hdg : decode cc pc = .ok (.putfield index, 3))
    (kk : ∀ (H1 : Heap) (locs1 : List Loc), mm_ob G (mm_h H1) a ci (fs.set k v) → H1.size = H.size → (∀ q : Nat, q ≠ a → H1[q]? = H[q]?) → va_S A H0 H1 locs1 → W p l e R s m args below meth c H1 locs1 cells slots Q (F0 m (pc + 3) ls rest)) : W p l e R s m args below meth c H locs cells slots Q (F0 m pc ls (v :: .ref a :: rest)) := by
  have hap := va_apart (own := own) hts hin ty0 hty hnm hKK.K hc
  obtain ⟨r, cell, h1, q1, q2, q3, q4⟩ := hO
  have hr : r = (C, T, N) := Option.some.inj (h1.symm.trans hc)
  subst hr
  obtain ⟨hS, hfc, kC, hkC, hkind⟩ := hKK.K.1 ci _ hc
  obtain ⟨cf, kf, fi, f, hi, hsl⟩ := hS k hk
  have hlay := hts _ (hin _ (u_in_lay hk))
  unfold u_lay at hlay
  rw [if_neg (by rw [hfin]; decide)] at hlay
  have hst := (u_facts hfc hkC (u_lays hts hin hk) hi).1
  have h6 := u_store hfc hkC hkind hlay hi hd hn hfit
  refine W.putK hx hb (f := f) ⟨hown, hlink, ⟨_, _, _, hsame _ hi⟩, hst⟩ (by rw [q2]; exact h6) q1 q3 (by rw [hsl]; exact k2_hasslot (q4 k hk)) rfl rfl hdg fun H' e1 e2 e3 => ?_
  rw [hsl] at e1 ⊢
  exact kk H' _ ⟨_, _, hc, e1, q2, q3, fun j hj => (t_set q4 hap hk v j hj).trans (congrArg some (vp_updV_set hl v j))⟩ e2 e3 (hS0.put e2 e3 hA)
theorem mm_putN (hx : p.tables.exec = Jvm.exec) (hb : c.code = cc) {own ref C host : String} {T : u_T} {N ci index : Nat} (hts : ∀ w ∈ lw_all, w.before args s = true) (hin : ∀ w ∈ u_ws C T N, w ∈ lw_all) (ty0 : Nat → FieldType) (hty : ∀ k, k < N → parseFieldDescriptor (T k).2.2.1 = some (ty0 k)) (hnm : ∀ a, a < N → ∀ b, b < N → a ≠ b → (T a).2.1 ≠ (T b).2.1) (hown : s.vm.findClass own = some m.cls) (hKK : KK G P s) {fs : List Value} (hO : mm_ob G (mm_h H) a ci fs) (hS0 : va_S A H0 H locs) (hA : A a) (hc : mm_cl[ci]? = some (C, T, N)) (k : Nat) (hk : k < N) (hlink : Cond.fieldLinkNest own index ref (T k).2.1 (T k).2.2.1 host ∈ lw_tbl) (hsame : ∀ x, s.fieldFound? (T k).1 (T k).2.1 (T k).2.2.1 = some x → s.fieldFound? ref (T k).2.1 (T k).2.2.1 = some x) (hfin : (T k).2.2.2 = false) {ty : FieldType} {v : Value} (hd : parseFieldDescriptor (T k).2.2.1 = some ty) (hn : narrow ty v = v) (hfit : fits ty v = true) (hl : k < fs.length) (hdg : decode cc pc = .ok (.putfield index, 3))
    (kk : ∀ (H1 : Heap) (locs1 : List Loc), mm_ob G (mm_h H1) a ci (fs.set k v) → H1.size = H.size → (∀ q : Nat, q ≠ a → H1[q]? = H[q]?) → va_S A H0 H1 locs1 → W p l e R s m args below meth c H1 locs1 cells slots Q (F0 m (pc + 3) ls rest)) : W p l e R s m args below meth c H locs cells slots Q (F0 m pc ls (v :: .ref a :: rest)) := by
  have hap := va_apart (own := own) hts hin ty0 hty hnm hKK.K hc
  obtain ⟨r, cell, h1, q1, q2, q3, q4⟩ := hO
  have hr : r = (C, T, N) := Option.some.inj (h1.symm.trans hc)
  subst hr
  obtain ⟨hS, hfc, kC, hkC, hkind⟩ := hKK.K.1 ci _ hc
  obtain ⟨cf, kf, fi, f, hi, hsl⟩ := hS k hk
  have hlay := hts _ (hin _ (u_in_lay hk))
  unfold u_lay at hlay
  rw [if_neg (by rw [hfin]; decide)] at hlay
  have hst := (u_facts hfc hkC (u_lays hts hin hk) hi).1
  have h6 := u_store hfc hkC hkind hlay hi hd hn hfit
  refine va_WputK hx hb (f := f) hown (va_Nw.use rfl (hKK.W.use hlink rfl)) (hsame _ hi) hst (by rw [q2]; exact h6) q1 q3 (by rw [hsl]; exact k2_hasslot (q4 k hk)) rfl rfl hdg fun H' e1 e2 e3 => ?_
  rw [hsl] at e1 ⊢
  exact kk H' _ ⟨_, _, hc, e1, q2, q3, fun j hj => (t_set q4 hap hk v j hj).trans (congrArg some (vp_updV_set hl v j))⟩ e2 e3 (hS0.put e2 e3 hA)
/-- a final field, in its class's constructor -/
theorem mm_putF (hx : p.tables.exec = Jvm.exec) (hb : c.code = cc) {own ref C : String} {T : u_T} {N ci index : Nat} (hts : ∀ w ∈ lw_all, w.before args s = true) (hin : ∀ w ∈ u_ws C T N, w ∈ lw_all) (ty0 : Nat → FieldType) (hty : ∀ k, k < N → parseFieldDescriptor (T k).2.2.1 = some (ty0 k)) (hnm : ∀ a, a < N → ∀ b, b < N → a ≠ b → (T a).2.1 ≠ (T b).2.1) (hown : s.vm.findClass own = some m.cls) (hKK : KK G P s) {fs : List Value} (hO : mm_ob G (mm_h H) a ci fs) (hS0 : va_S A H0 H locs) (hA : A a) (hc : mm_cl[ci]? = some (C, T, N)) (k : Nat) (hk : k < N) (hlink : (Cond.fieldLink own index ref (T k).2.1 (T k).2.2.1).before args s = true) (hsame : ∀ x, s.fieldFound? (T k).1 (T k).2.1 (T k).2.2.1 = some x → s.fieldFound? ref (T k).2.1 (T k).2.2.1 = some x) (hfin : (T k).2.2.2 = true) (hin2 : meth.name = "<init>") (hdecl : (T k).1 = own) {ty : FieldType} {v : Value} (hd : parseFieldDescriptor (T k).2.2.1 = some ty) (hn : narrow ty v = v) (hfit : fits ty v = true) (hl : k < fs.length) (hdg : decode cc pc = .ok (.putfield index, 3))
    (kk : ∀ (H1 : Heap) (locs1 : List Loc), mm_ob G (mm_h H1) a ci (fs.set k v) → H1.size = H.size → (∀ q : Nat, q ≠ a → H1[q]? = H[q]?) → va_S A H0 H1 locs1 → W p l e R s m args below meth c H1 locs1 cells slots Q (F0 m (pc + 3) ls rest)) : W p l e R s m args below meth c H locs cells slots Q (F0 m pc ls (v :: .ref a :: rest)) := by
  have hap := va_apart (own := own) hts hin ty0 hty hnm hKK.K hc
  obtain ⟨r, cell, h1, q1, q2, q3, q4⟩ := hO
  have hr : r = (C, T, N) := Option.some.inj (h1.symm.trans hc)
  subst hr
  obtain ⟨hS, hfc, kC, hkC, hkind⟩ := hKK.K.1 ci _ hc
  obtain ⟨cf, kf, fi, f, hi, hsl⟩ := hS k hk
  have hlay := hts _ (hin _ (u_in_lay hk))
  unfold u_lay at hlay
  rw [if_pos hfin] at hlay
  have hst := (u_facts hfc hkC (u_lays hts hin hk) hi).1
  have hcf : m.cls = cf := by
    obtain ⟨_, _, c', _, _, _, -, -, hf', -, -, -, hown2, -⟩ := Cond.laysFinal_spec hlay
    have e1 : c' = cf := by have := hi.symm.trans hf'; simp at this; exact this.1.symm
    rw [hdecl] at hown2
    rw [← e1]; exact Option.some.inj (hown.symm.trans hown2)
  have h6 := u_fits hfc hkC hkind (Or.inr hlay) hi hd hn hfit
  refine W.putFinK hx hb hown hlink (hsame _ hi) hst hcf hin2 (by rw [q2]; exact h6) q1 q3 (by rw [hsl]; exact k2_hasslot (q4 k hk)) rfl rfl hdg fun H' e1 e2 e3 => ?_
  rw [hsl] at e1 ⊢
  exact kk H' _ ⟨_, _, hc, e1, q2, q3, fun j hj => (t_set q4 hap hk v j hj).trans (congrArg some (vp_updV_set hl v j))⟩ e2 e3 (hS0.put e2 e3 hA)
theorem mm_gets (hx : p.tables.exec = Jvm.exec) (hb : c.code = cc) {C n d own ref : String} {v : Value} {index : Nat} (hZ : mm_z C n d v s F) (hF : mm_le F (mm_h H)) (hown : s.vm.findClass own = some m.cls) (hlink : (Cond.fieldLink own index ref n d).before args s = true) (hsame : ∀ x, s.fieldFound? C n d = some x → s.fieldFound? ref n d = some x) (hdg : decode cc pc = .ok (.getstatic index, 3))
    (kk : W p l e R s m args below meth c H locs cells slots Q (F0 m (pc + 3) ls (v :: rest))) : W p l e R s m args below meth c H locs cells slots Q (F0 m pc ls rest) := by
  obtain ⟨cf, kf, fi, f, a, cell, h1, h2, h3, h4, h5, h6, h7⟩ := hZ
  exact W.gets hx hb hown hlink (hsame _ h1) h2 h3 h4 (hF.at h5) (fun e => by rw [e] at h6; cases h6) h7 rfl hdg kk
theorem mm_new (hx : p.tables.exec = Jvm.exec) (hb : c.code = cc) {own C : String} {T : u_T} {N ci index : Nat} (hts : ∀ w ∈ lw_all, w.before args s = true) (hin : ∀ w ∈ u_ws C T N, w ∈ lw_all) (ty : Nat → FieldType) (hty : ∀ k, k < N → parseFieldDescriptor (T k).2.2.1 = some (ty k)) (hown : s.vm.findClass own = some m.cls) (hcl : (Cond.classLink own index C).before args s = true) (hinst : (Cond.instantiable C N).before args s = true) (hini : (Cond.initialized C).before args s = true) (hKK : KK G P s) (hS : va_S A H0 H locs) (hc : mm_cl[ci]? = some (C, T, N)) {fs : List Value} (hfs : ∀ j, j < N → defaultValue (ty j) = vp_V fs j) (hcells : cells + 1 ≤ R.cells) (hslots : slots + N ≤ R.slots) (hdg : decode cc pc = .ok (.new index, 3))
    (kk : ∀ (q : Nat) (H1 : Heap), q = H.size → mm_ob G (mm_h H1) q ci fs → H1.size = H.size + 1 → (∀ z : Nat, z < H.size → H1[z]? = H[z]?) → va_S A H0 H1 locs → W p l e R s m args below meth c H1 locs (cells + 1) (slots + N) Q (F0 m (pc + 3) ls (.ref q :: rest))) : W p l e R s m args below meth c H locs cells slots Q (F0 m pc ls rest) := by
  have hKn := hKK.K.1 ci _ hc
  refine W.newcK hx hb hown hcl hinst hini rfl hdg hcells hslots hKn.2.1 rfl fun H1 kC hkC e1 z1 o1 => ?_
  obtain ⟨cell, g1, g2, g3, g4⟩ := (u_born ty hts hin hKn hkC e1 hty).to hfs
  exact kk H.size H1 rfl ⟨_, cell, hc, g1, g2, g3, g4⟩ z1 o1 ⟨Nat.le_trans hS.1 (by omega), fun x h1 h2 => (o1 x (Nat.lt_of_lt_of_le h1 hS.1)).trans (hS.2.1 x h1 h2), hS.2.2⟩
end MRA
section MRB
variable {p : Program} {l : Launch} {e : Env} {R : Room} {s : State} {m : MethodId} {args : Array Value} {below : List Frame} {meth : Method} {c : Code} {H : Heap} {locs : List Loc} {cells slots : Nat} {Q : State → Prop}
variable {cc : ByteArray} {pc : Nat} {ls : Array Slot} {rest : List Value} {A : Nat → Prop} {H0 : Heap} {G : mm_G} {P F : mm_H} {a : Nat}
theorem mm_bd {k n : Nat} {cA : ClassId} {f : Nat → Value} (hk : k < n) (hn : n < 2 ^ 31) : ¬ (nI k < 0 ∨ (arrV cA n f).slots.size ≤ (nI k).toNatClampNeg) := by
  rw [arrV_size]; exact nI_in hk hn
theorem mm_rd {k n : Nat} {cA : ClassId} {f : Nat → Value} (hk : k < n) (hn : n < 2 ^ 31) : (arrV cA n f).slots[(nI k).toNatClampNeg]? = some (f k) := by
  rw [nI_clamp (by omega), arrV_read _ _ hk]
theorem mm_st (cA : ClassId) {n k : Nat} (f g : Nat → Value) (x : Value) (hk : k < 2 ^ 31) (h : ∀ j, updV f k x j = g j) : (arrV cA n f).setSlot (nI k).toNatClampNeg x = arrV cA n g := by
  rw [nI_clamp hk, arrV_store]; congr 1; funext j; exact h j
theorem mm_nv {cA : ClassId} {n : Nat} {f : Nat → Value} : (arrV cA n f).vm ≠ .unknown := fun q => by cases q
theorem mm_alen (hx : p.tables.exec = Jvm.exec) (hb : c.code = cc) (hKK : KK G P s) (t : Nat) {ty : FieldType} (ht : (mm_ty G)[t]? = some (G.2.1 t, ty)) {n : Nat} {f : Nat → Value} (hA : mm_va F a (G.2.1 t) n f) (hF : mm_le F (mm_h H)) (hdg : decode cc pc = .ok (.arraylength, 1))
    (kk : W p l e R s m args below meth c H locs cells slots Q (F0 m (pc + 1) ls (.int (nI n) :: rest))) : W p l e R s m args below meth c H locs cells slots Q (F0 m pc ls (.ref a :: rest)) :=
  W.alen hx hb (hF.at hA) ((hKK.K.2 t _ ht).1 n f) (by rw [arrV_size]; rfl) rfl rfl hdg kk
theorem mm_iald (hx : p.tables.exec = Jvm.exec) (hb : c.code = cc) (hKK : KK G P s) {n k : Nat} {f : Nat → Int32} (hA : mm_ia G F a 0 n f) (hF : mm_le F (mm_h H)) (hk : k < n) (hn : n < 2 ^ 31) (hdg : decode cc pc = .ok (.iaload, 1))
    (kk : W p l e R s m args below meth c H locs cells slots Q (F0 m (pc + 1) ls (.int (f k) :: rest))) : W p l e R s m args below meth c H locs cells slots Q (F0 m pc ls (.int (nI k) :: .ref a :: rest)) :=
  W.iald (v := .int (f k)) hx hb (hF.at hA) ((hKK.K.2 0 _ rfl).1 n _) mm_nv (mm_bd hk hn) (mm_rd hk hn) rfl rfl hdg kk
theorem mm_bald (hx : p.tables.exec = Jvm.exec) (hb : c.code = cc) (hKK : KK G P s) {n k : Nat} {f : Nat → Int32} (hA : mm_ia G F a 1 n f) (hF : mm_le F (mm_h H)) (hk : k < n) (hn : n < 2 ^ 31) (hdg : decode cc pc = .ok (.baload, 1))
    (kk : W p l e R s m args below meth c H locs cells slots Q (F0 m (pc + 1) ls (.int (f k) :: rest))) : W p l e R s m args below meth c H locs cells slots Q (F0 m pc ls (.int (nI k) :: .ref a :: rest)) :=
  W.bald (v := .int (f k)) hx hb (hF.at hA) ((hKK.K.2 1 _ rfl).1 n _) mm_nv (mm_bd hk hn) (mm_rd hk hn) rfl rfl hdg kk
theorem mm_zald (hx : p.tables.exec = Jvm.exec) (hb : c.code = cc) (hKK : KK G P s) {n k : Nat} {f : Nat → Int32} (hA : mm_ia G F a 2 n f) (hF : mm_le F (mm_h H)) (hk : k < n) (hn : n < 2 ^ 31) (hdg : decode cc pc = .ok (.baload, 1))
    (kk : W p l e R s m args below meth c H locs cells slots Q (F0 m (pc + 1) ls (.int (f k) :: rest))) : W p l e R s m args below meth c H locs cells slots Q (F0 m pc ls (.int (nI k) :: .ref a :: rest)) :=
  W.zald (v := .int (f k)) hx hb (hF.at hA) ((hKK.K.2 2 _ rfl).1 n _) mm_nv (mm_bd hk hn) (mm_rd hk hn) rfl rfl hdg kk
theorem mm_lald (hx : p.tables.exec = Jvm.exec) (hb : c.code = cc) (hKK : KK G P s) {n k : Nat} {f : Nat → Int64} (hA : mm_la G F a 3 n f) (hF : mm_le F (mm_h H)) (hk : k < n) (hn : n < 2 ^ 31) (hdg : decode cc pc = .ok (.laload, 1))
    (kk : W p l e R s m args below meth c H locs cells slots Q (F0 m (pc + 1) ls (.long (f k) :: rest))) : W p l e R s m args below meth c H locs cells slots Q (F0 m pc ls (.int (nI k) :: .ref a :: rest)) :=
  W.lald (v := .long (f k)) hx hb (hF.at hA) ((hKK.K.2 3 _ rfl).1 n _) mm_nv (mm_bd hk hn) (mm_rd hk hn) rfl rfl hdg kk
theorem mm_aald (hx : p.tables.exec = Jvm.exec) (hb : c.code = cc) (hKK : KK G P s) {n k : Nat} {f : Nat → Option Nat} (hA : mm_qa G F a 4 n f) (hF : mm_le F (mm_h H)) (hk : k < n) (hn : n < 2 ^ 31) (hdg : decode cc pc = .ok (.aaload, 1))
    (kk : W p l e R s m args below meth c H locs cells slots Q (F0 m (pc + 1) ls (va_rf (f k) :: rest))) : W p l e R s m args below meth c H locs cells slots Q (F0 m pc ls (.int (nI k) :: .ref a :: rest)) :=
  W.aald (v := va_rf (f k)) (ty := .object "java/lang/Object") hx hb (hF.at hA) ((hKK.K.2 4 _ rfl).1 n _) rfl mm_nv (mm_bd hk hn) (mm_rd hk hn) rfl rfl hdg kk
theorem mm_iast (hx : p.tables.exec = Jvm.exec) (hb : c.code = cc) (hKK : KK G P s) {n k : Nat} {f : Nat → Int32} {x : Int32} (hO : mm_ia G (mm_h H) a 0 n f) (hS : va_S A H0 H locs) (hA : A a) (hk : k < n) (hn : n < 2 ^ 31) (hdg : decode cc pc = .ok (.iastore, 1))
    (kk : ∀ (H1 : Heap) (locs1 : List Loc), mm_ia G (mm_h H1) a 0 n (upd f k x) → H1.size = H.size → (∀ q : Nat, q ≠ a → H1[q]? = H[q]?) → va_S A H0 H1 locs1 → W p l e R s m args below meth c H1 locs1 cells slots Q (F0 m (pc + 1) ls rest)) : W p l e R s m args below meth c H locs cells slots Q (F0 m pc ls (.int x :: .int (nI k) :: .ref a :: rest)) := by
  refine W.iast hx hb (cell := arrV (G.2.1 0) n (fun j => .int (f j))) hO ((hKK.K.2 0 _ rfl).1 n _) mm_nv (mm_bd hk hn) rfl rfl hdg fun H1 e z oq => ?_
  refine kk H1 _ ?_ z oq (hS.put z oq hA)
  show H1[a]? = some _
  rw [e]
  exact congrArg some (mm_st _ _ _ _ (by omega) (fun j => by by_cases h : j = k <;> simp [updV, upd, h]))
theorem mm_bast (hx : p.tables.exec = Jvm.exec) (hb : c.code = cc) (hKK : KK G P s) {n k : Nat} {f : Nat → Int32} {x : Int32} (hO : mm_ia G (mm_h H) a 1 n f) (hS : va_S A H0 H locs) (hA : A a) (hk : k < n) (hn : n < 2 ^ 31) (hdg : decode cc pc = .ok (.bastore, 1))
    (kk : ∀ (H1 : Heap) (locs1 : List Loc), mm_ia G (mm_h H1) a 1 n (upd f k (vp_nar .byte x)) → H1.size = H.size → (∀ q : Nat, q ≠ a → H1[q]? = H[q]?) → va_S A H0 H1 locs1 → W p l e R s m args below meth c H1 locs1 cells slots Q (F0 m (pc + 1) ls rest)) : W p l e R s m args below meth c H locs cells slots Q (F0 m pc ls (.int x :: .int (nI k) :: .ref a :: rest)) := by
  refine W.bast hx hb (cell := arrV (G.2.1 1) n (fun j => .int (f j))) hO ((hKK.K.2 1 _ rfl).1 n _) mm_nv (mm_bd hk hn) rfl rfl hdg fun H1 e z oq => ?_
  refine kk H1 _ ?_ z oq (hS.put z oq hA)
  show H1[a]? = some _
  rw [e]
  exact congrArg some (mm_st _ _ _ _ (by omega) (fun j => by by_cases h : j = k <;> simp [updV, upd, h] <;> rfl))
theorem mm_zast (hx : p.tables.exec = Jvm.exec) (hb : c.code = cc) (hKK : KK G P s) {n k : Nat} {f : Nat → Int32} {x : Int32} (hO : mm_ia G (mm_h H) a 2 n f) (hS : va_S A H0 H locs) (hA : A a) (hk : k < n) (hn : n < 2 ^ 31) (hdg : decode cc pc = .ok (.bastore, 1))
    (kk : ∀ (H1 : Heap) (locs1 : List Loc), mm_ia G (mm_h H1) a 2 n (upd f k (vp_nar .boolean x)) → H1.size = H.size → (∀ q : Nat, q ≠ a → H1[q]? = H[q]?) → va_S A H0 H1 locs1 → W p l e R s m args below meth c H1 locs1 cells slots Q (F0 m (pc + 1) ls rest)) : W p l e R s m args below meth c H locs cells slots Q (F0 m pc ls (.int x :: .int (nI k) :: .ref a :: rest)) := by
  refine W.zast hx hb (cell := arrV (G.2.1 2) n (fun j => .int (f j))) hO ((hKK.K.2 2 _ rfl).1 n _) mm_nv (mm_bd hk hn) rfl rfl hdg fun H1 e z oq => ?_
  refine kk H1 _ ?_ z oq (hS.put z oq hA)
  show H1[a]? = some _
  rw [e]
  exact congrArg some (mm_st _ _ _ _ (by omega) (fun j => by by_cases h : j = k <;> simp [updV, upd, h] <;> rfl))
theorem mm_last (hx : p.tables.exec = Jvm.exec) (hb : c.code = cc) (hKK : KK G P s) {n k : Nat} {f : Nat → Int64} {x : Int64} (hO : mm_la G (mm_h H) a 3 n f) (hS : va_S A H0 H locs) (hA : A a) (hk : k < n) (hn : n < 2 ^ 31) (hdg : decode cc pc = .ok (.lastore, 1))
    (kk : ∀ (H1 : Heap) (locs1 : List Loc), mm_la G (mm_h H1) a 3 n (vp_updL f k x) → H1.size = H.size → (∀ q : Nat, q ≠ a → H1[q]? = H[q]?) → va_S A H0 H1 locs1 → W p l e R s m args below meth c H1 locs1 cells slots Q (F0 m (pc + 1) ls rest)) : W p l e R s m args below meth c H locs cells slots Q (F0 m pc ls (.long x :: .int (nI k) :: .ref a :: rest)) := by
  refine W.last hx hb (cell := arrV (G.2.1 3) n (fun j => .long (f j))) hO ((hKK.K.2 3 _ rfl).1 n _) mm_nv (mm_bd hk hn) rfl rfl hdg fun H1 e z oq => ?_
  refine kk H1 _ ?_ z oq (hS.put z oq hA)
  show H1[a]? = some _
  rw [e]
  exact congrArg some (mm_st _ _ _ _ (by omega) (fun j => by by_cases h : j = k <;> simp [updV, vp_updL, h]))
/-- new arrays: of ints 0, bytes 1, booleans 2, longs 3 -/
theorem mm_newa (t : Nat) (atype : ArrayType) {ty : FieldType} (hty : newarray.typeOf atype = ty) (ht : (mm_ty G)[t]? = some (G.2.1 t, ty)) (hno : ∀ C, ty ≠ .object C) (hx : p.tables.exec = Jvm.exec) (hb : c.code = cc) (harr : (Cond.arrayClass ty).before args s = true) (hKK : KK G P s) (hS : va_S A H0 H locs) {N : Nat} {f : Nat → Value} (hf : f = fun _ => defaultValue ty) (hN : N < 2 ^ 31) (hbytes : N * componentBytes ty ≤ 536870912) (hcells : cells + 1 ≤ R.cells) (hslots : slots + N ≤ R.slots) (hdg : decode cc pc = .ok (.newarray atype, 2))
    (kk : ∀ (q : Nat) (H1 : Heap), q = H.size → mm_va (mm_h H1) q (G.2.1 t) N f → H1.size = H.size + 1 → (∀ z : Nat, z < H.size → H1[z]? = H[z]?) → va_S A H0 H1 locs → W p l e R s m args below meth c H1 locs (cells + 1) (slots + N) Q (F0 m (pc + 2) ls (.ref q :: rest))) : W p l e R s m args below meth c H locs cells slots Q (F0 m pc ls (.int (nI N) :: rest)) := by
  subst hty
  refine W.newa hx hb harr rfl hdg rfl (nI_pos hN) (by rw [nI_clamp hN]; exact hbytes) hcells (by rw [nI_clamp hN]; exact hslots) fun cA kA comp g1 g2 g3 => ?_
  have e0 := (hKK.K.2 t _ ht).2
  have ec : cA = G.2.1 t := by
    have e1 : s.vm.findClass ("[" ++ (newarray.typeOf atype).toString) = some (G.2.1 t) := by
      cases atype <;> exact e0
    exact Option.some.inj (g1.symm.trans e1)
  subst ec
  rw [nI_clamp hN]
  generalize hH1 : H.push _ = H1
  have z1 : H1.size = H.size + 1 := by rw [← hH1, Array.size_push]
  have o1 : ∀ q : Nat, q < H.size → H1[q]? = H[q]? := fun q hq => by rw [← hH1, Array.getElem?_push, if_neg (Nat.ne_of_lt hq)]
  refine kk H.size H1 rfl ?_ z1 o1 ⟨Nat.le_trans hS.1 (by omega), fun x h1 h2 => (o1 x (Nat.lt_of_lt_of_le h1 hS.1)).trans (hS.2.1 x h1 h2), hS.2.2⟩
  show H1[H.size]? = some _
  rw [← hH1, Array.getElem?_push_size, hf, ← arrV_new]
theorem mm_newq (hx : p.tables.exec = Jvm.exec) (hb : c.code = cc) {own : String} {index : Nat} (hown : s.vm.findClass own = some m.cls) (hclink : (Cond.classLink own index "java/lang/Object").before args s = true) (hKK : KK G P s) (hS : va_S A H0 H locs) {N : Nat} (hN : N < 2 ^ 31) (hbytes : N * 4 ≤ 536870912) (hcells : cells + 1 ≤ R.cells) (hslots : slots + N ≤ R.slots) (hdg : decode cc pc = .ok (.anewarray index, 3))
    (kk : ∀ (q : Nat) (H1 : Heap), q = H.size → mm_qa G (mm_h H1) q 4 N (fun _ => none) → H1.size = H.size + 1 → (∀ z : Nat, z < H.size → H1[z]? = H[z]?) → va_S A H0 H1 locs → W p l e R s m args below meth c H1 locs (cells + 1) (slots + N) Q (F0 m (pc + 3) ls (.ref q :: rest))) : W p l e R s m args below meth c H locs cells slots Q (F0 m pc ls (.int (nI N) :: rest)) := by
  refine W.anew hx hb hown hclink (va_AO.use hKK.AO) rfl hdg rfl (nI_pos hN) (by rw [nI_clamp hN]; exact hbytes) hcells (by rw [nI_clamp hN]; exact hslots) fun cA kA comp f1 f2 f3 f4 => ?_
  obtain ⟨kA', comp', -, -, -, e4⟩ := (hKK.K.2 4 _ rfl).2
  have ec : cA = G.2.1 4 := Option.some.inj (f1.symm.trans e4)
  subst ec
  rw [nI_clamp hN]
  generalize hH1 : H.push _ = H1
  have z1 : H1.size = H.size + 1 := by rw [← hH1, Array.size_push]
  have o1 : ∀ q : Nat, q < H.size → H1[q]? = H[q]? := fun q hq => by rw [← hH1, Array.getElem?_push, if_neg (Nat.ne_of_lt hq)]
  refine kk H.size H1 rfl ?_ z1 o1 ⟨Nat.le_trans hS.1 (by omega), fun x h1 h2 => (o1 x (Nat.lt_of_lt_of_le h1 hS.1)).trans (hS.2.1 x h1 h2), hS.2.2⟩
  show H1[H.size]? = some _
  rw [← hH1, Array.getElem?_push_size]
  exact congrArg some (arrV_new _ _ _)
end MRB
section MRC
variable {p : Program} {l : Launch} {e : Env} {R : Room} {s : State} {m : MethodId} {args : Array Value} {below : List Frame} {meth : Method} {c : Code} {H : Heap} {locs : List Loc} {cells slots : Nat}
variable {cc : ByteArray} {pc : Nat} {ls : Array Slot} {H0 : Heap} {mc ms : Nat} {M : Nat → Prop} {post : Option Value → Heap → Prop}
theorem mm_end {locs : List Loc} (hS : va_S (mm_A M H0) H0 H locs) {r : Option Value} (hp : post r H) : ∀ t : State, t.heap = H → s.WarmedH t.vm → mm_Qc H0 M post args s (.returned r) t := by
  intro t ht _
  refine ⟨⟨r, rfl, by rw [ht]; exact hp⟩, by rw [ht]; exact hS.1, fun q h1 h2 => ?_⟩
  rw [ht]
  exact hS.2.1 q h1 (fun z => z.elim h2 (fun z => absurd h1 (Nat.not_lt.mpr z)))
theorem mm_iret (hx : p.tables.exec = Jvm.exec) (hb : c.code = cc) (hr : meth.sig.returnType = some .int) (hlk : meth.locks = false) (hS : va_S (mm_A M H0) H0 H locs) (hc : cells ≤ mc) (hs : slots ≤ ms) {v : Int32} (hp : post (some (.int v)) H) (hdg : decode cc pc = .ok (.ireturn, 1)) : W p l e R s m args below meth c H locs cells slots (MQ below (mm_Qc H0 M post) args s mc ms (mm_A M H0)) (F0 m pc ls [.int v]) :=
  W.widen hc hs (W.iret (v := v) hx hb hr (mm_end hS hp) hS.2.2 hdg hlk)
theorem mm_zret (hx : p.tables.exec = Jvm.exec) (hb : c.code = cc) {ty : FieldType} (hr : meth.sig.returnType = some ty) (hlk : meth.locks = false) (hS : va_S (mm_A M H0) H0 H locs) (hc : cells ≤ mc) (hs : slots ≤ ms) {v : Int32} (hn : narrow ty (.int v) = .int v) (hp : post (some (.int v)) H) (hdg : decode cc pc = .ok (.ireturn, 1)) : W p l e R s m args below meth c H locs cells slots (MQ below (mm_Qc H0 M post) args s mc ms (mm_A M H0)) (F0 m pc ls [.int v]) :=
  W.widen hc hs (W.zret (v := v) hx hb hr hn (mm_end hS hp) hS.2.2 hdg hlk)
theorem mm_vret (hx : p.tables.exec = Jvm.exec) (hb : c.code = cc) (hr : meth.sig.returnType = none) (hlk : meth.locks = false) (hS : va_S (mm_A M H0) H0 H locs) (hc : cells ≤ mc) (hs : slots ≤ ms) (hp : post none H) (hdg : decode cc pc = .ok (.return_, 1)) : W p l e R s m args below meth c H locs cells slots (MQ below (mm_Qc H0 M post) args s mc ms (mm_A M H0)) (F0 m pc ls []) :=
  W.widen hc hs (W.vret hx hb hr (mm_end hS hp) hS.2.2 hdg hlk)
theorem mm_aret (hx : p.tables.exec = Jvm.exec) (hb : c.code = cc) {rt : FieldType} (hr : meth.sig.returnType = some rt) (hrt : rt.isReference = true) (hlk : meth.locks = false) (hS : va_S (mm_A M H0) H0 H locs) (hc : cells ≤ mc) (hs : slots ≤ ms) {v : Value} (hv : v = .null ∨ ∃ a, v = .ref a) (hp : post (some v) H) (hdg : decode cc pc = .ok (.areturn, 1)) : W p l e R s m args below meth c H locs cells slots (MQ below (mm_Qc H0 M post) args s mc ms (mm_A M H0)) (F0 m pc ls [v]) :=
  W.widen hc hs (W.aret (v := v) (rt := rt) hx hb hr (by cases rt <;> first | exact Or.inl ⟨_, rfl⟩ | exact Or.inr ⟨_, rfl⟩ | exact absurd hrt (by decide)) hv (mm_end hS hp) hS.2.2 hdg hlk)
theorem mm_dret (hx : p.tables.exec = Jvm.exec) (hb : c.code = cc) (hr : meth.sig.returnType = some .double) (hlk : meth.locks = false) (hS : va_S (mm_A M H0) H0 H locs) (hc : cells ≤ mc) (hs : slots ≤ ms) {v : UInt64} (hp : post (some (.double v)) H) (hdg : decode cc pc = .ok (.dreturn, 1)) : W p l e R s m args below meth c H locs cells slots (MQ below (mm_Qc H0 M post) args s mc ms (mm_A M H0)) (F0 m pc ls [.double v]) :=
  W.widen hc hs (W.dret (v := v) hx hb hr (mm_end hS hp) hS.2.2 hdg hlk)
theorem mm_fret (hx : p.tables.exec = Jvm.exec) (hb : c.code = cc) (hr : meth.sig.returnType = some .float) (hlk : meth.locks = false) (hS : va_S (mm_A M H0) H0 H locs) (hc : cells ≤ mc) (hs : slots ≤ ms) {v : UInt32} (hp : post (some (.float v)) H) (hdg : decode cc pc = .ok (.freturn, 1)) : W p l e R s m args below meth c H locs cells slots (MQ below (mm_Qc H0 M post) args s mc ms (mm_A M H0)) (F0 m pc ls [.float v]) :=
  W.widen hc hs (W.fret (v := v) hx hb hr (mm_end hS hp) hS.2.2 hdg hlk)
theorem mm_va_rf (o : Option Nat) : va_rf o = .null ∨ ∃ a, va_rf o = .ref a := by
  cases o with
  | none => exact Or.inl rfl
  | some a => exact Or.inr ⟨a, rfl⟩
end MRC
