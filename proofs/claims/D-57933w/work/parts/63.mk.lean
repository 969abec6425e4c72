/-! marks, continued -/
theorem mkU_id {S : sp_S} (hW : WF S) {d k : Nat} (g : Hgt S d k) {m : Nat → Bool} (h : CLm S (k + 1) m) (hm : m k = true) : mkU S d k m = m := by
  funext j; unfold mkU
  cases z : (nds S d k).contains j with
  | false => rw [Bool.or_false]
  | true => rw [CLm_nds hW g h hm j (List.contains_iff_mem.mp z)]; rfl
def mkL (S : sp_S) (d k : Nat) (m : Nat → Bool) (i : Nat) : Nat → Bool := fun j => (decide (j = k) || m j) || ((List.range i).flatMap (fun i => nds S d (s_chd S k i))).contains j
theorem mkL_0 {S : sp_S} {d k : Nat} {m : Nat → Bool} : mkL S d k m 0 = fun j => decide (j = k) || m j := by
  funext j; exact Bool.or_false _
theorem mkL_s {S : sp_S} {d k i : Nat} {m : Nat → Bool} : mkU S d (s_chd S k i) (mkL S d k m i) = mkL S d k m (i + 1) := by
  funext j; unfold mkU mkL
  rw [List.range_succ, List.flatMap_append, Bool.or_assoc]
  congr 1
  apply Bool.eq_iff_iff.mpr
  simp only [Bool.or_eq_true, List.contains_iff_mem, List.mem_append, List.flatMap_cons, List.flatMap_nil, List.append_nil]
theorem mkL_U {S : sp_S} {d k : Nat} {m : Nat → Bool} (hl : s_leaf S k = false) : mkL S d k m (s_cnt S k) = mkU S (d + 1) k m := by
  funext j; unfold mkU mkL
  rw [nds_inner hl]
  apply Bool.eq_iff_iff.mpr
  simp only [Bool.or_eq_true, decide_eq_true_eq, List.contains_iff_mem, List.mem_cons]
  constructor
  · rintro ((h | h) | h)
    · exact .inr (.inl h)
    · exact .inl h
    · exact .inr (.inr h)
  · rintro (h | h | h)
    · exact .inl (.inr h)
    · exact .inl (.inl h)
    · exact .inr h
theorem mkL_Ul {S : sp_S} {d k : Nat} {m : Nat → Bool} (hl : s_leaf S k = true) : mkL S d k m 0 = mkU S (d + 1) k m := by
  rw [mkL_0]
  funext j; unfold mkU
  rw [nds_leaf hl]
  apply Bool.eq_iff_iff.mpr
  simp only [Bool.or_eq_true, decide_eq_true_eq, List.contains_iff_mem, List.mem_singleton]
  exact Or.comm
theorem mkL_CL {S : sp_S} (hW : WF S) {d k : Nat} (g : Hgt S (d + 1) k) (hl : s_leaf S k = false) {m : Nat → Bool} (h : CLm S (k + 1) m) : ∀ {i : Nat}, i ≤ s_cnt S k → CLm S k (mkL S d k m i) := by
  intro i
  induction i with
  | zero =>
    intro _
    rw [mkL_0]
    intro j hj hm hlj i2 hi2
    rw [Bool.or_eq_true, decide_eq_true_eq] at hm
    have hm2 := hm.resolve_left (by omega)
    show (decide _ || m _) = true
    rw [h j (by omega) hm2 hlj i2 hi2, Bool.or_true]
  | succ i ih =>
    intro hi
    rw [← mkL_s]
    exact mkU_CL hW (g.chd hl (by omega)) (ih (by omega))
theorem upd_mb {m : Nat → Bool} {k : Nat} : upd (fun j => mm_b (m j)) k (vp_nar .boolean (nI 1)) = fun j => mm_b (decide (j = k) || m j) := by
  funext j; unfold upd
  by_cases h : j = k
  · rw [if_pos h, decide_eq_true h]; rfl
  · rw [if_neg h, decide_eq_false h]; rfl
