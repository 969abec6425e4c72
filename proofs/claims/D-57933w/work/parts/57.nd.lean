/-! nodes: leaves and inner nodes, with their lists -/
def NL (G : mm_G) (W : mm_H) (a k : Nat) (lst n : Nat) (ev : Nat → Int32) : Prop := mm_ob G W a 4 [.int (nI k), .ref lst] ∧ ∃ (arr cap : Nat) (mc : Int32) (es : Nat → Nat), AL G W lst arr cap mc n es ∧ ∀ i, i < n → mm_in G W (es i) (ev i)
def NI (G : mm_G) (W : mm_H) (a k : Nat) (lst n : Nat) (kids : Nat → Nat) : Prop := mm_ob G W a 5 [.int (nI k), .ref lst] ∧ ∃ (arr cap : Nat) (mc : Int32), AL G W lst arr cap mc n kids
def NOK (G : mm_G) (W : mm_H) (nd : Nat → Nat) (S : sp_S) (k : Nat) : Prop := (s_leaf S k = true ∧ ∃ lst, NL G W (nd k) k lst (s_cnt S k) (s_ent S k)) ∨ (s_leaf S k = false ∧ ∃ lst, NI G W (nd k) k lst (s_cnt S k) (fun i => nd (s_chd S k i)))
def NDS (G : mm_G) (W : mm_H) (nd : Nat → Nat) (S : sp_S) : Prop := ∀ k, k < s_nn S → s_sto S k = true → NOK G W nd S k
theorem NL.mono {G : mm_G} {W W2 : mm_H} {a k lst n : Nat} {ev : Nat → Int32} (h : NL G W a k lst n ev) (q : mm_le W W2) : NL G W2 a k lst n ev := by
  obtain ⟨h1, arr, cap, mc, es, h2, h3⟩ := h
  exact ⟨h1.mono q, arr, cap, mc, es, h2.mono q, fun i hi => mm_rb.mono (h3 i hi) q⟩
theorem NI.mono {G : mm_G} {W W2 : mm_H} {a k lst n : Nat} {kids : Nat → Nat} (h : NI G W a k lst n kids) (q : mm_le W W2) : NI G W2 a k lst n kids := by
  obtain ⟨h1, arr, cap, mc, h2⟩ := h
  exact ⟨h1.mono q, arr, cap, mc, h2.mono q⟩
theorem NOK.mono {G : mm_G} {W W2 : mm_H} {nd : Nat → Nat} {S : sp_S} {k : Nat} (h : NOK G W nd S k) (q : mm_le W W2) : NOK G W2 nd S k :=
  h.imp (fun ⟨h1, lst, h2⟩ => ⟨h1, lst, h2.mono q⟩) (fun ⟨h1, lst, h2⟩ => ⟨h1, lst, h2.mono q⟩)
theorem NDS.mono {G : mm_G} {W W2 : mm_H} {nd : Nat → Nat} {S : sp_S} (h : NDS G W nd S) (q : mm_le W W2) : NDS G W2 nd S := fun k hk hs => (h k hk hs).mono q
theorem NOK.L {G : mm_G} {W : mm_H} {nd : Nat → Nat} {S : sp_S} {k : Nat} (h : NOK G W nd S k) (hl : s_leaf S k = true) : ∃ lst, NL G W (nd k) k lst (s_cnt S k) (s_ent S k) := by
  rcases h with ⟨-, h⟩ | ⟨h, -⟩
  · exact h
  · rw [hl] at h; cases h
theorem NOK.I {G : mm_G} {W : mm_H} {nd : Nat → Nat} {S : sp_S} {k : Nat} (h : NOK G W nd S k) (hl : s_leaf S k = false) : ∃ lst, NI G W (nd k) k lst (s_cnt S k) (fun i => nd (s_chd S k i)) := by
  rcases h with ⟨h, -⟩ | ⟨-, h⟩
  · rw [hl] at h; cases h
  · exact h
/-- a is a node: its number is k -/
theorem NOK.ob {G : mm_G} {W : mm_H} {nd : Nat → Nat} {S : sp_S} {k : Nat} (h : NOK G W nd S k) : ∃ ci lst, (ci = 4 ∨ ci = 5) ∧ mm_ob G W (nd k) ci [.int (nI k), .ref lst] := by
  rcases h with ⟨-, lst, h1, -⟩ | ⟨-, lst, h1, -⟩
  · exact ⟨4, lst, .inl rfl, h1⟩
  · exact ⟨5, lst, .inr rfl, h1⟩
theorem NOK.el {G : mm_G} {W : mm_H} {nd : Nat → Nat} {S : sp_S} {k : Nat} (h : NOK G W nd S k) : mm_el G W (nd k) := by
  obtain ⟨ci, lst, h1, h2⟩ := h.ob
  exact ⟨ci, _, h2.rb, by rcases h1 with rfl | rfl <;> simp⟩
/-- between -/
def isB (a lo hi : Int32) : Bool := decide (lo ≤ a) && decide (a ≤ hi)
theorem isB_inR (a : Int32) {n : Nat} (h : n < 2 ^ 30) : isB a (nI 0) (nI n - nI 1) = inR a n := by
  unfold isB inR
  have e : (nI n - nI 1).toInt = (n : Int) - 1 := nI_m1 h
  rw [← Bool.decide_and]
  apply decide_eq_decide.mpr
  rw [Int32.le_iff_toInt_le, Int32.le_iff_toInt_le, e, nI_toInt (by decide)]
  omega
theorem isB_N {a lo hi : Nat} (h1 : a < 2 ^ 31) (h2 : lo < 2 ^ 31) (h3 : hi < 2 ^ 31) : isB (nI a) (nI lo) (nI hi) = (decide (lo ≤ a) && decide (a ≤ hi)) := by
  unfold isB
  congr 1 <;> (apply decide_eq_decide.mpr; rw [Int32.le_iff_toInt_le, nI_toInt (by omega), nI_toInt (by omega)]; omega)
section MRN
variable {p : Program} {l : Launch} {e : Env} {R : Room} {s : State} {m : MethodId} {args : Array Value} {below : List Frame} {meth : Method} {c : Code} {H : Heap} {locs : List Loc} {cells slots : Nat} {Q : State → Prop}
variable {cc : ByteArray} {pc : Nat} {ls : Array Slot} {rest : List Value} {G : mm_G} {P W1 : mm_H} {nd : Nat → Nat} {S : sp_S} {k : Nat}
theorem mm_castNd (hx : p.tables.exec = Jvm.exec) (hb : c.code = cc) (hKK : KK G P s) {own : String} {index : Nat} (hown : s.vm.findClass own = some m.cls) (hlink : (Cond.classLink own index "VectorVersions$Node").before args s = true) (hN : NOK G W1 nd S k) (hF : mm_le W1 (mm_h H)) (hdg : decode cc pc = .ok (.checkcast index, 3))
    (kk : W p l e R s m args below meth c H locs cells slots Q (F0 m (pc + 3) ls (.ref (nd k) :: rest))) : W p l e R s m args below meth c H locs cells slots Q (F0 m pc ls (.ref (nd k) :: rest)) := by
  obtain ⟨ci, lst, h1, h2⟩ := hN.ob
  rcases h1 with rfl | rfl
  · exact va_castY (C := "VectorVersions$Leaf") hx hb hown hlink (hKK.W.use q3128 rfl) (mm_rc hKK h2 hF rfl) hdg kk
  · exact va_castY (C := "VectorVersions$Inner") hx hb hown hlink (hKK.W.use q3127 rfl) (mm_rc hKK h2 hF rfl) hdg kk
end MRN
