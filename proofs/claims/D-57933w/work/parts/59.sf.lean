/-! the component's store, as cells: W holds what may change (the store, its lists, its versions), Q the rest (trees, originals, nodes) -/
def VOK (G : mm_G) (W : mm_H) (a v : Nat) (S : sp_S) (tr og : Nat) : Prop := mm_ob G W a 2 [.int (nI v), .int (oI (s_par S v)), .int (nI (s_cre S v)), .ref tr, .ref og, .int (mm_b (s_rel S v))]
def TOK (G : mm_G) (Q : mm_H) (nd : Nat → Nat) (S : sp_S) (a v : Nat) : Prop := ∃ rt : Option Nat, mm_ob G Q a 3 [va_rf rt, .int (nI (s_len S v)), .int (nI (hf (s_len S v)))] ∧ (s_rel S v = false → rt = (s_root S v).map nd)
/-- num lists the stored nodes, in order -/
def NUM (S : sp_S) (num : Nat → Nat) : Prop := (∀ i, i < cB (s_nn S) (s_sto S) → num i < s_nn S ∧ s_sto S (num i) = true) ∧ (∀ i j, i < j → j < cB (s_nn S) (s_sto S) → num i < num j) ∧ ∀ k, k < s_nn S → s_sto S k = true → ∃ i, i < cB (s_nn S) (s_sto S) ∧ num i = k
def NJ (S : sp_S) (nd : Nat → Nat) : Prop := ∀ j k, j < s_nn S → k < s_nn S → s_sto S j = true → s_sto S k = true → nd j = nd k → j = k
def SL (G : mm_G) (W : mm_H) (a vl va vcap : Nat) (vmc : Int32) (vs : Nat → Nat) (nl na ncap : Nat) (nmc : Int32) (ns : Nat → Nat) (nv nn ns9 : Nat) : Prop := mm_ob G W a 1 [.ref vl, .ref nl, .int (nI nn)] ∧ AL G W vl va vcap vmc nv vs ∧ AL G W nl na ncap nmc ns9 ns
def SF (G : mm_G) (W Q : mm_H) (a : Nat) (S : sp_S) (nd vs tr og num : Nat → Nat) : Prop :=
  (∃ (vl va vcap nl na ncap : Nat) (vmc nmc : Int32), SL G W a vl va vcap vmc vs nl na ncap nmc (fun i => nd (num i)) (s_nv S) (s_nn S) (cB (s_nn S) (s_sto S))) ∧
  (∀ v, v < s_nv S → VOK G W (vs v) v S (tr v) (og v) ∧ TOK G Q nd S (tr v) v ∧ mm_ia G Q (og v) 0 (s_len S v) (s_els S v)) ∧ NDS G Q nd S ∧ NJ S nd ∧ NUM S num
theorem cmpI_0 (a b : Int32) : cmpI a b = 0 ↔ a = b := by
  unfold cmpI
  by_cases h : a < b
  · rw [if_pos h]; exact ⟨fun z => absurd z (by decide), fun z => absurd h (by rw [z]; exact fun y => Int32.lt_irrefl y)⟩
  · rw [if_neg h]
    by_cases h2 : a = b
    · rw [if_pos h2]; exact ⟨fun _ => h2, fun _ => rfl⟩
    · rw [if_neg h2]; exact ⟨fun z => absurd z (by decide), fun z => absurd z h2⟩
/-- a tree's root -/
theorem RgV_r {S : sp_S} {v i : Nat} (g : RgV S v) (hi : i < s_len S v) : ∃ r, s_root S v = some r ∧ Reg S (hf (s_len S v) - 1 + 1) r (s_len S v) (s_els S v) := by
  have g' : RegO S (hf (s_len S v)) (s_root S v) (s_len S v) (s_els S v) := g
  cases hr : s_root S v with
  | none => rw [hr] at g'; exact absurd (show s_len S v = 0 from g') (by omega)
  | some r => rw [hr] at g'; exact ⟨r, rfl, by rw [← hf_pos (by omega)]; exact g'⟩
