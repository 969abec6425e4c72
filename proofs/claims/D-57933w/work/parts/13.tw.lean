/-! THE TWIN's WORLD: one object of VectorVersionsModel, its ints by I, its arrays (by their fields' places) at ad, holding F -/
def tw_isA (k : Nat) : Bool := match k with
  | 0 | 1 | 2 | 3 | 7 | 8 | 10 | 11 | 12 | 22 | 24 | 26 => true
  | _ => false
def tw_t (k : Nat) : Nat := match k with
  | 12 | 26 => 1
  | _ => 0
def tw_n (k : Nat) : Nat := match k with
  | 0 | 1 | 2 => 4210
  | 3 => 33680
  | 7 => 4
  | 8 | 10 | 24 => 64
  | 11 => 200
  | 12 => 600
  | 22 => 120
  | 26 => 322
  | _ => 0
def tw_fs (ad : Nat → Nat) (I : Nat → Int32) : List Value := [.ref (ad 0), .ref (ad 1), .ref (ad 2), .ref (ad 3), .int (I 4), .int (I 5), .int (I 6), .ref (ad 7), .ref (ad 8), .int (I 9), .ref (ad 10), .ref (ad 11), .ref (ad 12), .int (I 13), .int (I 14), .int (I 15), .int (I 16), .int (I 17), .int (I 18), .int (I 19), .int (I 20), .int (I 21), .ref (ad 22), .int (I 23), .ref (ad 24), .int (I 25), .ref (ad 26), .int (I 27)]
def tw_D (x : Nat) (ad : Nat → Nat) : Prop := (∀ k, tw_isA k = true → x ≠ ad k) ∧ ∀ j k, tw_isA j = true → tw_isA k = true → ad j = ad k → j = k
def TW (G : mm_G) (x : Nat) (ad : Nat → Nat) (I : Nat → Int32) (F : Nat → Nat → Int32) (H : Heap) : Prop := tw_D x ad ∧ mm_ob G (mm_h H) x 14 (tw_fs ad I) ∧ ∀ k, tw_isA k = true → mm_ia G (mm_h H) (ad k) (tw_t k) (tw_n k) (F k)
/-- the twin's cells -/
def tw_M (x : Nat) (ad : Nat → Nat) : Nat → Prop := fun q => q = x ∨ ∃ k, tw_isA k = true ∧ q = ad k
def tw_u (F : Nat → Nat → Int32) (k i : Nat) (v : Int32) : Nat → Nat → Int32 := fun j => if j = k then upd (F k) i v else F j
theorem tw_up (I : Nat → Int32) (k : Nat) (v : Int32) : upd I k v k = v := if_pos rfl
theorem tw_un {I : Nat → Int32} {k j : Nat} {v : Int32} (h : j ≠ k) : upd I k v j = I j := if_neg h
theorem tw_us (F : Nat → Nat → Int32) (k i : Nat) (v : Int32) : tw_u F k i v k = upd (F k) i v := if_pos rfl
theorem tw_uo {F : Nat → Nat → Int32} {k i j : Nat} {v : Int32} (h : j ≠ k) : tw_u F k i v j = F j := if_neg h
theorem TW.kept {G : mm_G} {x : Nat} {ad : Nat → Nat} {I : Nat → Int32} {F : Nat → Nat → Int32} {H H1 : Heap} (h : TW G x ad I F H) (hk : ∀ q, q < H.size → tw_M x ad q → H1[q]? = H[q]?) : TW G x ad I F H1 :=
  ⟨h.1, h.2.1.kept (hk x h.2.1.lt (Or.inl rfl)), fun k hA => (h.2.2 k hA).kept (hk _ (h.2.2 k hA).lt (Or.inr ⟨k, hA, rfl⟩))⟩
section TWR
variable {p : Program} {l : Launch} {e : Env} {R : Room} {s : State} {m : MethodId} {args : Array Value} {below : List Frame} {meth : Method} {c : Code} {H : Heap} {locs : List Loc} {cells slots : Nat} {Q : State → Prop}
variable {cc : ByteArray} {pc : Nat} {ls : Array Slot} {rest : List Value} {A : Nat → Prop} {H0 : Heap} {G : mm_G} {P : mm_H} {x : Nat} {ad : Nat → Nat} {I : Nat → Int32} {F : Nat → Nat → Int32}
theorem tw_geti (k : Nat) {v : Int32} (hx : p.tables.exec = Jvm.exec) (hb : c.code = cc) {own : String} {index : Nat} (hts : ∀ w ∈ lw_all, w.before args s = true) (hown : s.vm.findClass own = some m.cls) (hKK : KK G P s) (hT : TW G x ad I F H) (hk : k < 28) (hf : (tw_fs ad I)[k]? = some (.int (I k))) (hv : I k = v) (hlink : (Cond.fieldLink own index "VectorVersionsModel" (TX8 k).2.1 (TX8 k).2.2.1).before args s = true) (hdg : decode cc pc = .ok (.getfield index, 3))
    (kk : W p l e R s m args below meth c H locs cells slots Q (F0 m (pc + 3) ls (.int v :: rest))) (hT8 : (TX8 k).1 = "VectorVersionsModel" := by rfl) : W p l e R s m args below meth c H locs cells slots Q (F0 m pc ls (.ref x :: rest)) :=
  mm_get (C := RX8) (T := TX8) (N := 28) (ci := 14) (v := .int v) hx hb hts in_X8 hown hKK (mm_ob.rb hT.2.1) mm_le.rf rfl k hk hlink (fun _ h => by rw [hT8] at h; exact h) (by rw [hf, hv]) hdg kk
theorem tw_geta (k : Nat) (hx : p.tables.exec = Jvm.exec) (hb : c.code = cc) {own : String} {index : Nat} (hts : ∀ w ∈ lw_all, w.before args s = true) (hown : s.vm.findClass own = some m.cls) (hKK : KK G P s) (hT : TW G x ad I F H) (hk : decide (k < 28) = true) (hf : (tw_fs ad I)[k]? = some (.ref (ad k))) (hlink : (Cond.fieldLink own index "VectorVersionsModel" (TX8 k).2.1 (TX8 k).2.2.1).before args s = true) (hdg : decode cc pc = .ok (.getfield index, 3))
    (kk : W p l e R s m args below meth c H locs cells slots Q (F0 m (pc + 3) ls (.ref (ad k) :: rest))) (hT8 : (TX8 k).1 = "VectorVersionsModel" := by rfl) : W p l e R s m args below meth c H locs cells slots Q (F0 m pc ls (.ref x :: rest)) :=
  mm_get (C := RX8) (T := TX8) (N := 28) (ci := 14) (v := .ref (ad k)) hx hb hts in_X8 hown hKK (mm_ob.rb hT.2.1) mm_le.rf rfl k (of_decide_eq_true hk) hlink (fun _ h => by rw [hT8] at h; exact h) hf hdg kk
theorem tw_put (k : Nat) {v : Int32} (hx : p.tables.exec = Jvm.exec) (hb : c.code = cc) {own : String} {index : Nat} (hts : ∀ w ∈ lw_all, w.before args s = true) (hown : s.vm.findClass own = some m.cls) (hKK : KK G P s) (hT : TW G x ad I F H) (hS : va_S A H0 H locs) (hA : A x) (hk : k < 28) (hf : (tw_fs ad I).set k (.int v) = tw_fs ad (upd I k v)) (hfin : (TX8 k).2.2.2 = false) (hn : narrow (tyX8 k) (.int v) = .int v ∧ fits (tyX8 k) (.int v) = true) (hlink : (Cond.fieldLink own index "VectorVersionsModel" (TX8 k).2.1 (TX8 k).2.2.1).before args s = true) (hdg : decode cc pc = .ok (.putfield index, 3))
    (kk : ∀ (H1 : Heap) (locs1 : List Loc), TW G x ad (upd I k v) F H1 → H1.size = H.size → (∀ q : Nat, q ≠ x → H1[q]? = H[q]?) → va_S A H0 H1 locs1 → W p l e R s m args below meth c H1 locs1 cells slots Q (F0 m (pc + 3) ls rest)) (hT8 : (TX8 k).1 = "VectorVersionsModel" := by rfl) : W p l e R s m args below meth c H locs cells slots Q (F0 m pc ls (.int v :: .ref x :: rest)) := by
  refine mm_put (C := RX8) (T := TX8) (N := 28) (ci := 14) (v := .int v) (ty := tyX8 k) hx hb hts in_X8 tyX8 tyX8_ok nmX8 hown hKK hT.2.1 hS hA rfl k hk hlink (fun _ h => by rw [hT8] at h; exact h) hfin (tyX8_ok k hk) hn.1 hn.2 (show k < 28 from hk) hdg (fun H1 L1 hO hz hq hS1 => ?_)
  rw [hf] at hO
  exact kk H1 L1 ⟨hT.1, hO, fun j hj => (hT.2.2 j hj).kept (hq _ (Ne.symm (hT.1.1 j hj)))⟩ hz hq hS1
theorem tw_st (j : Nat) {k : Nat} {v : Int32} (hx : p.tables.exec = Jvm.exec) (hb : c.code = cc) (hKK : KK G P s) (hT : TW G x ad I F H) (hS : va_S A H0 H locs) (hA : ∀ j, tw_isA j = true → A (ad j)) (hj : tw_isA j = true) (ht : tw_t j = 0) (hk : k < tw_n j) (hdg : decode cc pc = .ok (.iastore, 1))
    (kk : ∀ (H1 : Heap) (locs1 : List Loc), TW G x ad I (tw_u F j k v) H1 → H1.size = H.size → (∀ q : Nat, q ≠ ad j → H1[q]? = H[q]?) → va_S A H0 H1 locs1 → W p l e R s m args below meth c H1 locs1 cells slots Q (F0 m (pc + 1) ls rest)) : W p l e R s m args below meth c H locs cells slots Q (F0 m pc ls (.int v :: .int (nI k) :: .ref (ad j) :: rest)) := by
  have hO := hT.2.2 j hj
  rw [ht] at hO
  have hn : tw_n j < 2 ^ 31 := by unfold tw_n; split <;> decide
  refine mm_iast hx hb hKK hO hS (hA j hj) hk hn hdg (fun H1 L1 hO1 hz hq hS1 => ?_)
  refine kk H1 L1 ⟨hT.1, hT.2.1.kept (hq _ (hT.1.1 j hj)), fun i hi => ?_⟩ hz hq hS1
  by_cases h : i = j
  · subst h
    rw [tw_us, ht]; exact hO1
  · rw [tw_uo h]
    exact (hT.2.2 i hi).kept (hq _ (fun z => h (hT.1.2 i j hi hj z)))
theorem tw_stb (j : Nat) {k : Nat} {v : Int32} (hx : p.tables.exec = Jvm.exec) (hb : c.code = cc) (hKK : KK G P s) (hT : TW G x ad I F H) (hS : va_S A H0 H locs) (hA : ∀ j, tw_isA j = true → A (ad j)) (hj : tw_isA j = true) (ht : tw_t j = 1) (hk : k < tw_n j) (hdg : decode cc pc = .ok (.bastore, 1))
    (kk : ∀ (H1 : Heap) (locs1 : List Loc), TW G x ad I (tw_u F j k (vp_nar .byte v)) H1 → H1.size = H.size → (∀ q : Nat, q ≠ ad j → H1[q]? = H[q]?) → va_S A H0 H1 locs1 → W p l e R s m args below meth c H1 locs1 cells slots Q (F0 m (pc + 1) ls rest)) : W p l e R s m args below meth c H locs cells slots Q (F0 m pc ls (.int v :: .int (nI k) :: .ref (ad j) :: rest)) := by
  have hO := hT.2.2 j hj
  rw [ht] at hO
  have hn : tw_n j < 2 ^ 31 := by unfold tw_n; split <;> decide
  refine mm_bast hx hb hKK hO hS (hA j hj) hk hn hdg (fun H1 L1 hO1 hz hq hS1 => ?_)
  refine kk H1 L1 ⟨hT.1, hT.2.1.kept (hq _ (hT.1.1 j hj)), fun i hi => ?_⟩ hz hq hS1
  by_cases h : i = j
  · subst h
    rw [tw_us, ht]; exact hO1
  · rw [tw_uo h]
    exact (hT.2.2 i hi).kept (hq _ (fun z => h (hT.1.2 i j hi hj z)))
end TWR
