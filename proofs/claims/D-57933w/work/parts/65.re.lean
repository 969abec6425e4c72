/-! reachable from the live versions but one -/
def rchE (S : sp_S) (e : Option Nat) : Nat → Nat → Bool
  | 0, _ => false
  | n + 1, k => rchE S e n k || (decide (e ≠ some n) && (s_live S n && (tn S n).contains k))
theorem rchE_none {S : sp_S} : ∀ {n k : Nat}, rchE S none n k = rchB S n k := by
  intro n
  induction n with
  | zero => intro k; rfl
  | succ n ih => intro k; show (rchE S none n k || _) = (rchB S n k || _); rw [ih]; congr 1
theorem rchE_no {S : sp_S} {e : Option Nat} {n : Nat} (h : e = some n ∨ s_rel S n = true) : rchE S e (n + 1) = rchE S e n := by
  funext k
  show (rchE S e n k || _) = _
  rcases h with h | h
  · rw [decide_eq_false (show ¬ e ≠ some n from fun z => z h), Bool.false_and, Bool.or_false]
  · rw [show s_live S n = false by unfold s_live; rw [h]; rfl, Bool.false_and, Bool.and_false, Bool.or_false]
theorem rchE_go {S : sp_S} {e : Option Nat} {n : Nat} (h : e ≠ some n) (h2 : s_rel S n = false) : rchE S e (n + 1) = fun k => rchE S e n k || (tn S n).contains k := by
  funext k
  show (rchE S e n k || _) = _
  rw [decide_eq_true h, show s_live S n = true by unfold s_live; rw [h2]; rfl, Bool.true_and, Bool.true_and]
theorem tn_root {S : sp_S} (hG : HG S) {v r : Nat} (hv : v < s_nv S) (hl : s_rel S v = false) (hr : s_root S v = some r) : tn S v = nds S (hf (s_len S v)) r := by
  rw [hG.tne hv hl, hr]; rfl
theorem tn_none {S : sp_S} {v : Nat} (hr : s_root S v = none) : tn S v = [] := by unfold tn; rw [hr]
theorem tn_kids {S : sp_S} (hG : HG S) {v : Nat} (hv : v < s_nv S) (hl : s_rel S v = false) : ∀ j, j ∈ tn S v → s_leaf S j = false → ∀ i, i < s_cnt S j → s_chd S j i ∈ tn S v := by
  cases hr : s_root S v with
  | none => intro j hj; rw [tn_none hr] at hj; cases hj
  | some r => rw [tn_root hG hv hl hr]; exact nds_kids (hG v hv hl r hr)
theorem rchE_CL {S : sp_S} (hG : HG S) {e : Option Nat} {m : Nat} : ∀ {n : Nat}, n ≤ s_nv S → CLm S m (rchE S e n) := by
  intro n
  induction n with
  | zero => intro _ k _ h; cases h
  | succ n ih =>
    intro hn
    have h1 := ih (by omega)
    cases hl : s_rel S n with
    | true => rw [rchE_no (.inr hl)]; exact h1
    | false =>
      by_cases he : e = some n
      · rw [rchE_no (.inl he)]; exact h1
      · rw [rchE_go he hl]
        intro k hk hm hlf i hi
        have hm' : (rchE S e n k || (tn S n).contains k) = true := hm
        show (rchE S e n (s_chd S k i) || (tn S n).contains (s_chd S k i)) = true
        rw [Bool.or_eq_true] at hm' ⊢
        rcases hm' with z | z
        · exact .inl (h1 k hk z hlf i hi)
        · exact .inr (List.contains_iff_mem.mpr (tn_kids hG (by omega) hl k (List.contains_iff_mem.mp z) hlf i hi))
theorem RG.rsto {S : sp_S} (h : RG S) {v r : Nat} (hv : v < s_nv S) (hl : s_rel S v = false) (hr : s_root S v = some r) : s_sto S r = true := by
  have g : RegO S (hf (s_len S v)) (s_root S v) (s_len S v) (s_els S v) := h v hv hl
  rw [hr] at g
  have g' : Reg S (hf (s_len S v)) r (s_len S v) (s_els S v) := g
  have h1 := Reg.one g'
  rw [hf_pos (by omega)] at g'
  exact g'.2.1
theorem rchB_sto {S : sp_S} (h : RG S) : ∀ {n k : Nat}, n ≤ s_nv S → rchB S n k = true → s_sto S k = true := by
  intro n
  induction n with
  | zero => intro k _ z; cases z
  | succ n ih =>
    intro k hn z
    have z' : (rchB S n k || (s_live S n && (tn S n).contains k)) = true := z
    rw [Bool.or_eq_true, Bool.and_eq_true] at z'
    rcases z' with y | ⟨y1, y2⟩
    · exact ih (by omega) y
    · have hl : s_rel S n = false := by unfold s_live at y1; cases q : s_rel S n with | false => rfl | true => rw [q] at y1; cases y1
      cases hr : s_root S n with
      | none => rw [tn_none hr] at y2; cases y2
      | some r =>
        rw [tn_root h.hg (by omega) hl hr] at y2
        have g : RegO S (hf (s_len S n)) (s_root S n) (s_len S n) (s_els S n) := h n (by omega) hl
        rw [hr] at g
        exact Reg_nsto (show Reg S (hf (s_len S n)) r (s_len S n) (s_els S n) from g) k (List.contains_iff_mem.mp y2)
theorem garb_eq {S : sp_S} (h : RG S) : cB (s_nn S) (rch S) ≤ cB (s_nn S) (s_sto S) ∧ cB (s_nn S) (s_sto S) - cB (s_nn S) (rch S) = s_garb S := by
  have h1 := cB_split (s_nn S) (s_sto S) (rch S)
  have h2 : cB (s_nn S) (fun k => s_sto S k && rch S k) = cB (s_nn S) (rch S) := cB_congr (fun k _ => by
    cases z : rch S k with
    | false => rw [Bool.and_false]
    | true => rw [rchB_sto h (Nat.le_refl _) z]; rfl)
  rw [h2] at h1
  unfold s_garb
  omega
theorem oI_iff {e : Option Nat} {i : Nat} (hi : i < 2 ^ 30) (he : ∀ r, e = some r → r < 2 ^ 30) : nI i = oI e ↔ e = some i := by
  cases e with
  | none => exact ⟨fun z => absurd z (nI_nm1 (by omega)), fun z => by cases z⟩
  | some r =>
    have hr := he r rfl
    refine ⟨fun z => ?_, fun z => by cases z; rfl⟩
    have z' : nI i = nI r := z
    have := congrArg Int32.toInt z'
    rw [nI_toInt (by omega), nI_toInt (by omega)] at this
    congr 1; omega
