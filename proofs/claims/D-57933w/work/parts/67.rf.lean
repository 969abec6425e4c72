/-! more about the store -/
theorem rchE_setR {S : sp_S} {v : Nat} : ∀ {n k : Nat}, rchB (setR S v) n k = rchE S (some v) n k := by
  intro n
  induction n with
  | zero => intro k; rfl
  | succ n ih =>
    intro k
    show (rchB (setR S v) n k || (s_live (setR S v) n && (tn (setR S v) n).contains k)) = (rchE S (some v) n k || (decide (some v ≠ some n) && (s_live S n && (tn S n).contains k)))
    rw [ih, tn_setR]
    congr 1
    have h4 := (setR_acc S v n).2.2.2.1
    by_cases z : n = v
    · subst z
      rw [if_pos rfl] at h4
      rw [show s_live (setR S n) n = false by unfold s_live; rw [h4]; rfl, decide_eq_false (show ¬ some n ≠ some n from fun y => y rfl), Bool.false_and, Bool.false_and]
    · rw [if_neg z] at h4
      rw [show s_live (setR S v) n = s_live S n by unfold s_live; rw [h4], decide_eq_true (show some v ≠ some n from fun y => z (Option.some.inj y).symm), Bool.true_and]
theorem garbR {S : sp_S} {v : Nat} (h : XI S) : cB (s_nn S) (rchE S (some v) (s_nv S)) ≤ cB (s_nn S) (rch S) ∧ cB (s_nn S) (rch S) - cB (s_nn S) (rchE S (some v) (s_nv S)) = s_garb (setR S v) - s_garb S := by
  have h1 := garb_eq h.2.1
  have h2 := garb_eq (XI_setR (v := v) h).2.1
  have e : cB (s_nn (setR S v)) (rch (setR S v)) = cB (s_nn S) (rchE S (some v) (s_nv S)) := cB_congr (fun k _ => rchE_setR)
  have e2 : cB (s_nn (setR S v)) (s_sto (setR S v)) = cB (s_nn S) (s_sto S) := rfl
  rw [e, e2] at h2
  have h3 := cB_mono (n := s_nn S) (p := rchE S (some v) (s_nv S)) (q := rch S) (fun k _ hk => rchB_setR (v := v) _ k (rchE_setR.trans hk))
  omega
theorem caN_a {S : sp_S} {n a b p : Nat} (h : b < a) (hp : s_par S a = some p) : caN S (n + 1) a b = caN S n p b := by
  show (if a = b then a else if b < a then _ else _) = _
  rw [if_neg (by omega), if_pos h, hp]; rfl
theorem caN_b {S : sp_S} {n a b p : Nat} (h : a < b) (hp : s_par S b = some p) : caN S (n + 1) a b = caN S n a p := by
  show (if a = b then a else if b < a then _ else _) = _
  rw [if_neg (by omega), if_neg (by omega), hp]; rfl
theorem caN_e {S : sp_S} {n a : Nat} : caN S (n + 1) a a = a := if_pos rfl
theorem fI_df {S : sp_S} {v u : Nat} (hv : s_len S v ≤ 64) (hu : s_len S u ≤ 64) (h : ∀ j, j < min (s_len S v) (s_len S u) → s_els S v j = s_els S u j) : fI 64 (dfA S v u) = if s_len S v = s_len S u then none else some (min (s_len S v) (s_len S u)) := by
  have h1 : ∀ j, j < min (s_len S v) (s_len S u) → dfA S v u j = false := fun j hj => by rw [dfA_2 (by omega) (by omega), decide_eq_true (h j hj)]; rfl
  by_cases z : s_len S v = s_len S u
  · rw [if_pos z]
    refine fI_none (fun j hj => ?_)
    by_cases y : j < s_len S v
    · exact h1 j (by omega)
    · exact dfA_3 (by omega) (by omega)
  · rw [if_neg z]
    exact fI_some (by omega) (dfA_1 (by omega)) h1
theorem fI_dd {S : sp_S} {v u i : Nat} (hv : s_len S v ≤ 64) (hi : i < min (s_len S v) (s_len S u)) (hne : s_els S v i ≠ s_els S u i) (h : ∀ j, j < i → s_els S v j = s_els S u j) : fI 64 (dfA S v u) = some i :=
  fI_some (by omega) (by rw [dfA_2 (by omega) (by omega), decide_eq_false hne]; rfl) (fun j hj => by rw [dfA_2 (by omega) (by omega), decide_eq_true (h j hj)]; rfl)
theorem isSt_num {S : sp_S} {num : Nat → Nat} {x : Int32} (hW : WF S) (hN : NUM S num) : (∀ i, i < cB (s_nn S) (s_sto S) → nI (num i) = x → isSt S x = true ∧ x.toNatClampNeg = num i) ∧ ((∀ i, i < cB (s_nn S) (s_sto S) → ¬ nI (num i) = x) → isSt S x = false) := by
  have hnn := hW.nn
  refine ⟨fun i hi e => ?_, fun h => ?_⟩
  · obtain ⟨h1, h2⟩ := hN.1 i hi
    rw [← e]
    exact ⟨by rw [isSt_n h1 hnn, h2], nI_clamp (by omega)⟩
  · cases z : isSt S x with
    | false => rfl
    | true =>
      obtain ⟨h1, h2⟩ := isSt_in z
      obtain ⟨j, hj, hej, hcj⟩ := inR_t h1
      rw [hcj] at h2
      obtain ⟨i, hi, he⟩ := hN.2.2 j hj h2
      exact absurd (by rw [he]; exact hej.symm) (h i hi)
