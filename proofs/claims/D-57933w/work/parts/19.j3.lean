/-! lists: what may be an element; rows of arrays of references, of copies, of casts -/
/-- what lies in the lists: versions, nodes, ints, actions, stores -/
def mm_el (G : mm_G) (W : mm_H) (v : Nat) : Prop := ∃ (ci : Nat) (fs : List Value), mm_rb G W v ci fs ∧ (ci = 1 ∨ ci = 2 ∨ ci = 4 ∨ ci = 5 ∨ ci = 9 ∨ ci = 10 ∨ ci = 11 ∨ ci = 12 ∨ ci = 13 ∨ ci = 20)
theorem mm_el.mono {G : mm_G} {P R : mm_H} {v : Nat} (h : mm_el G P v) (k : mm_le P R) : mm_el G R v := by
  obtain ⟨ci, fs, h1, h2⟩ := h
  exact ⟨ci, fs, h1.mono k, h2⟩
theorem mm_cO {s : State} (hW : mm_W s) {ci : Nat} {r : vw_C} (h : ci = 1 ∨ ci = 2 ∨ ci = 4 ∨ ci = 5 ∨ ci = 9 ∨ ci = 10 ∨ ci = 11 ∨ ci = 12 ∨ ci = 13 ∨ ci = 20) (hr : mm_cl[ci]? = some r) : va_Nw (.castable r.1 "java/lang/Object") s := by
  rcases h with rfl | rfl | rfl | rfl | rfl | rfl | rfl | rfl | rfl | rfl <;> cases hr
  · exact hW.use q3137 rfl
  · exact hW.use q3144 rfl
  · exact hW.use q3141 rfl
  · exact hW.use q3142 rfl
  · exact hW.use q3150 rfl
  · exact hW.use q3151 rfl
  · exact hW.use q3152 rfl
  · exact hW.use q3153 rfl
  · exact hW.use q3154 rfl
  · exact hW.use q3136 rfl
theorem mm_el.any {G : mm_G} {P W : mm_H} {H : Heap} {s : State} {v : Nat} (h : mm_el G W v) (hF : mm_le W (mm_h H)) (hKK : KK G P s) : va_Any "java/lang/Object" s H v := by
  obtain ⟨ci, fs, ⟨r, cell, h1, h2, h3, h4, h5, h6⟩, h7⟩ := h
  have hf := (hKK.K.1 ci r h1).2.1
  obtain ⟨kC, hkC, -⟩ := Vm.findClass_spec hf
  obtain ⟨c0, t0, f1, f2, f3⟩ := Cond.castable_spec (va_Nw.use (A := #[]) rfl (mm_cO hKK.W h7 h1))
  refine ⟨cell, hF.at h2, h5, ⟨kC, by rw [h3]; exact hkC⟩, fun comp hc => ?_⟩
  cases f2.symm.trans hc
  cases f1.symm.trans hf
  rw [h3]; exact f3
def updO (f : Nat → Option Nat) (k : Nat) (o : Option Nat) : Nat → Option Nat := fun j => if j = k then o else f j
section MRQ
variable {p : Program} {l : Launch} {e : Env} {R : Room} {s : State} {m : MethodId} {args : Array Value} {below : List Frame} {meth : Method} {c : Code} {H : Heap} {locs : List Loc} {cells slots : Nat} {Q : State → Prop}
variable {cc : ByteArray} {pc : Nat} {ls : Array Slot} {rest : List Value} {A : Nat → Prop} {H0 : Heap} {G : mm_G} {P F W1 : mm_H} {a : Nat}
theorem mm_aast (hx : p.tables.exec = Jvm.exec) (hb : c.code = cc) (hKK : KK G P s) {n k v : Nat} {f : Nat → Option Nat} (hO : mm_qa G (mm_h H) a 4 n f) (hS : va_S A H0 H locs) (hA : A a) (hk : k < n) (hn : n < 2 ^ 31) (hv : mm_el G W1 v) (hF : mm_le W1 (mm_h H)) (hdg : decode cc pc = .ok (.aastore, 1))
    (kk : ∀ (H1 : Heap) (locs1 : List Loc), mm_qa G (mm_h H1) a 4 n (updO f k (some v)) → H1.size = H.size → (∀ q : Nat, q ≠ a → H1[q]? = H[q]?) → va_S A H0 H1 locs1 → W p l e R s m args below meth c H1 locs1 cells slots Q (F0 m (pc + 1) ls rest)) : W p l e R s m args below meth c H locs cells slots Q (F0 m pc ls (.ref v :: .int (nI k) :: .ref a :: rest)) := by
  obtain ⟨cellV, g1, g3, ⟨kC, hkC⟩, hasg⟩ := hv.any hF hKK
  obtain ⟨kA, comp, k1, k2, k3, -⟩ := (hKK.K.2 4 _ rfl).2
  obtain ⟨kE, hkE, -⟩ := Vm.findClass_spec k3
  have hb' := mm_bd (cA := G.2.1 4) (f := fun j => va_rf (f j)) hk hn
  refine W.aast hx hb (cell := arrV (G.2.1 4) n (fun j => va_rf (f j))) hO (fun q h => by cases h) (fun h => by cases h) k1 k2 rfl hkE ⟨fun z => hb' (.inl z), Nat.not_le.mp (fun z => hb' (.inr z))⟩ g1 (fun q h => by rw [h] at g3; cases g3) hkC (hasg _ k3) rfl rfl hdg fun H1 e z oq => ?_
  refine kk H1 _ ?_ z oq (hS.put z oq hA)
  show H1[a]? = some _
  rw [e]
  exact congrArg some (mm_st _ _ _ _ (by omega) (fun j => by by_cases h : j = k <;> simp [updV, updO, h, va_rf]))
theorem mm_aastN (hx : p.tables.exec = Jvm.exec) (hb : c.code = cc) (hKK : KK G P s) {n k : Nat} {f : Nat → Option Nat} (hO : mm_qa G (mm_h H) a 4 n f) (hS : va_S A H0 H locs) (hA : A a) (hk : k < n) (hn : n < 2 ^ 31) (hdg : decode cc pc = .ok (.aastore, 1))
    (kk : ∀ (H1 : Heap) (locs1 : List Loc), mm_qa G (mm_h H1) a 4 n (updO f k none) → H1.size = H.size → (∀ q : Nat, q ≠ a → H1[q]? = H[q]?) → va_S A H0 H1 locs1 → W p l e R s m args below meth c H1 locs1 cells slots Q (F0 m (pc + 1) ls rest)) : W p l e R s m args below meth c H locs cells slots Q (F0 m pc ls (.null :: .int (nI k) :: .ref a :: rest)) := by
  refine va_WaastN (C := "java/lang/Object") hx hb (cell := arrV (G.2.1 4) n (fun j => va_rf (f j))) hO ((hKK.K.2 4 _ rfl).1 n (fun j => va_rf (f j))) (fun h => by cases h) (mm_bd hk hn) rfl rfl hdg fun H1 e z oq => ?_
  refine kk H1 _ ?_ z oq (hS.put z oq hA)
  show H1[a]? = some _
  rw [e]
  exact congrArg some (mm_st _ _ _ _ (by omega) (fun j => by by_cases h : j = k <;> simp [updV, updO, h, va_rf]))
/-- copies between arrays of one class; the source may be the target -/
theorem mm_copy (hx : p.tables.exec = Jvm.exec) (hb : c.code = cc) (hml : c.maxLocals = ls.size) {own : String} {index : Nat} (hown : s.vm.findClass own = some m.cls) (hlink : (Cond.methodLink own index arraycopyName).before args s = true) (hnat : (Cond.native arraycopyName).before args s = true) (hstat : (Cond.static arraycopyName).before args s = true) (hini : (Cond.initialized "java/lang/System").before args s = true) (hKK : KK G P s) (t : Nat) {ty : FieldType} (ht : (mm_ty G)[t]? = some (G.2.1 t, ty)) {α : Type} (mk : α → Value) {a0 n0 n1 sp dp n : Nat} {f g : Nat → α} (h0 : mm_va F a0 (G.2.1 t) n0 (fun j => mk (f j))) (hF : mm_le F (mm_h H)) (hO : mm_va (mm_h H) a (G.2.1 t) n1 (fun j => mk (g j))) (hS : va_S A H0 H locs) (hA : A a) (h4 : sp + n ≤ n0) (h5 : dp + n ≤ n1) (hb0 : n0 < 2 ^ 31) (hb1 : n1 < 2 ^ 31)
    (hel : ∀ i, i < n → fits ty (mk (f (sp + i))) = true ∧ (mk (f (sp + i)) = .null ∨ (refKind ty = false ∧ ∀ y, mk (f (sp + i)) ≠ .ref y) ∨ ∃ y, mk (f (sp + i)) = .ref y ∧ ty = .object "java/lang/Object" ∧ va_Any "java/lang/Object" s H y))
    (hframes : 1 ≤ R.frames) (hlocals : (rest.map fun v => v.category).sum + (nativeFrameWords "java/lang/System" "arraycopy" 5 + 11) ≤ R.locals) (hdg : decode cc pc = .ok (.invokestatic index, 3))
    (kk : ∀ (H1 : Heap) (locs1 : List Loc), mm_va (mm_h H1) a (G.2.1 t) n1 (fun j => mk (va_cpy f g sp dp n j)) → H1.size = H.size → (∀ q : Nat, q ≠ a → H1[q]? = H[q]?) → va_S A H0 H1 locs1 → W p l e R s m args below meth c H1 locs1 cells slots Q (F0 m (pc + 3) ls rest)) : W p l e R s m args below meth c H locs cells slots Q (F0 m pc ls (.int (nI n) :: .int (nI dp) :: .ref a :: .int (nI sp) :: .ref a0 :: rest)) := by
  have c0 : H[a0]? = some (arrV (G.2.1 t) n0 (fun j => mk (f j))) := hF.at h0
  have c1 : H[a]? = some (arrV (G.2.1 t) n1 (fun j => mk (g j))) := hO
  obtain ⟨-, k0, hk0, cm0, hkk0⟩ := (hKK.K.2 t _ ht).1 n0 (fun j => mk (f j))
  have en : (nI n).toNatClampNeg = n := nI_clamp (by omega)
  have es : (nI sp).toNatClampNeg = sp := nI_clamp (by omega)
  have ed : (nI dp).toNatClampNeg = dp := nI_clamp (by omega)
  intro T hT X
  obtain ⟨vm', X', step⟩ := X.arraycopy hx hown hlink hnat hstat hini (src := a0) (dst := a) (cs := arrV (G.2.1 t) n0 (fun j => mk (f j))) (cd := arrV (G.2.1 t) n1 (fun j => mk (g j))) (srcPos := nI sp) (destPos := nI dp) (n := nI n) (by rw [hT]; exact c0) (by rw [hT]; exact c1)
    (fun _ h => by cases h) (fun _ h => by cases h) (fun h => by cases h) (fun h => by cases h) hk0 hk0 hkk0 hkk0 (by cases refKind ty <;> simp) (nI_pos (by omega)) (nI_pos (by omega)) (nI_pos (by omega))
    (by rw [nI_toInt (by omega), nI_toInt (by omega), arrV_size]; omega) (by rw [nI_toInt (by omega), nI_toInt (by omega), arrV_size]; omega)
    (fun vm₁ hal i hi => by
      rw [en] at hi; rw [es]
      have e : (arrV (G.2.1 t) n0 (fun j => mk (f j))).slots.getD (sp + i) .null = mk (f (sp + i)) := by
        rw [Array.getD_eq_getD_getElem?, arrV_read _ _ (by omega)]; rfl
      rw [e]
      obtain ⟨hfit, hy⟩ := hel i hi
      refine ⟨hfit, ?_⟩
      rcases hy with hy | ⟨hp, hy⟩ | ⟨y, hy, rfl, cellV, g1, g2, ⟨kC, hkC⟩, hasg⟩
      · rw [hy]; trivial
      · cases hm : mk (f (sp + i)) with
        | ref y => exact absurd hm (hy y)
        | _ => trivial
      · rw [hy]
        obtain ⟨kA, comp, r1, r2, r3, -⟩ := (hKK.K.2 t _ ht).2
        cases hk0.symm.trans r1
        cases hkk0.symm.trans r2
        obtain ⟨kE, hkE, -⟩ := Vm.findClass_spec r3
        obtain ⟨kC', hkC', -⟩ := hal.2.2 _ _ hkC
        obtain ⟨kE', hkE', -⟩ := hal.2.2 _ _ hkE
        refine ⟨cellV, (show T.heap[y]? = some cellV by rw [hT]; exact g1), (fun q h => by rw [h] at g2; cases g2), ⟨kC', hkC'⟩, ⟨kE', hkE'⟩, ?_⟩
        show vm₁.assignable _ _ = true
        rw [hal.assignable]
        exact hasg _ r3)
    (g := F0 m pc ls (.int (nI n) :: .int (nI dp) :: .ref a :: .int (nI sp) :: .ref a0 :: rest)) rfl (by rw [hml]) (rest := rest) rfl (by rw [hb]; exact hdg) hframes (by show 2 * 0 + _ + _ ≤ _; omega)
  have e1 : copied (arrV (G.2.1 t) n0 (fun j => mk (f j))) (arrV (G.2.1 t) n1 (fun j => mk (g j))) (nI sp) (nI dp) (nI n) = arrV (G.2.1 t) n1 (fun j => mk (va_cpy f g sp dp n j)) := by
    have := va_copied mk (G.2.1 t) (G.2.1 t) (n0 := n0) (n1 := n1) (dp := dp) f g h4
    show (arrV (G.2.1 t) n1 _).storeRun (nI dp).toNatClampNeg ((arrV (G.2.1 t) n0 _).stretch (nI sp).toNatClampNeg (nI n).toNatClampNeg) = _
    rw [en, es, ed]; exact this
  rw [e1] at X' step
  have hl : a < H.size := (Array.getElem?_eq_some_iff.mp c1).1
  have hheap : ((T.setVm vm').setCell a (arrV (G.2.1 t) n1 (fun j => mk (va_cpy f g sp dp n j)))).heap = H.setIfInBounds a (arrV (G.2.1 t) n1 (fun j => mk (va_cpy f g sp dp n j))) := by rw [← hT]; rfl
  have oq : ∀ q : Nat, q ≠ a → (H.setIfInBounds a (arrV (G.2.1 t) n1 (fun j => mk (va_cpy f g sp dp n j))))[q]? = H[q]? := fun q hq => by simp [Array.getElem?_setIfInBounds, Ne.symm hq]
  have sz : (H.setIfInBounds a (arrV (G.2.1 t) n1 (fun j => mk (va_cpy f g sp dp n j)))).size = H.size := by simp
  obtain ⟨t9, a1, b1⟩ := kk _ _ (show (H.setIfInBounds a _)[a]? = some _ by simp [Array.getElem?_setIfInBounds, hl]) sz oq ⟨by rw [sz]; exact hS.1, fun q g1 g2 => by
      rw [oq q (fun e => g2 (by rw [e]; exact hA))]
      exact hS.2.1 q g1 g2, fun q hq => by
      rcases List.mem_append.mp hq with h | h
      · exact hS.2.2 q h
      · obtain ⟨z, -, hz⟩ := List.mem_map.mp h
        rw [← hz]
        exact hA⟩ _ hheap X'
  exact ⟨t9, step t9 a1, b1⟩
end MRQ
