/-! trees built level by level -/
def mkLs (lf : Bool) (e : Nat → Int32) (n : Nat) (S : sp_S) : Nat → sp_S
  | 0 => S
  | j + 1 => addN (mkLs lf e n S j) lf (min 4 (n - 4 * j)) (fun i => e (4 * j + i))
theorem mkLs_s (lf : Bool) (e : Nat → Int32) (n : Nat) (S : sp_S) (j : Nat) : mkLs lf e n S (j + 1) = addN (mkLs lf e n S j) lf (min 4 (n - 4 * j)) (fun i => e (4 * j + i)) := rfl
theorem mkLs_ex (lf : Bool) (e : Nat → Int32) (n : Nat) (S : sp_S) : ∀ j, exN S (mkLs lf e n S j) ∧ s_nn (mkLs lf e n S j) = s_nn S + j := by
  intro j
  induction j with
  | zero => exact ⟨exN.rf, rfl⟩
  | succ j ih => rw [mkLs_s]; exact ⟨ih.1.tr exN.addN, by rw [addN_nn, ih.2]; omega⟩
theorem mkLs_WF {lf : Bool} {e : Nat → Int32} {n : Nat} {S : sp_S} (hW : WF S) (he : lf = false → ∀ i, i < n → ∃ k, k < s_nn S ∧ e i = nI k) : ∀ {j : Nat}, s_nn S + j ≤ 190 → WF (mkLs lf e n S j) := by
  intro j
  induction j with
  | zero => intro _; exact hW
  | succ j ih =>
    intro hn
    obtain ⟨h1, h2⟩ := mkLs_ex lf e n S j
    refine WF_addN (ih (by omega)) (by omega) (by omega) (fun hf i hi => ?_)
    obtain ⟨k, hk, hk2⟩ := he hf (4 * j + i) (by omega)
    exact ⟨k, by omega, hk2⟩
/-- the nodes of a level -/
theorem mkLs_at (lf : Bool) (e : Nat → Int32) (n : Nat) (S : sp_S) (j i : Nat) (h : i < j) : s_sto (mkLs lf e n S j) (s_nn S + i) = true ∧ s_leaf (mkLs lf e n S j) (s_nn S + i) = lf ∧ s_cnt (mkLs lf e n S j) (s_nn S + i) = min 4 (n - 4 * i) ∧ s_ent (mkLs lf e n S j) (s_nn S + i) = fun q => e (4 * i + q) := by
  induction j with
  | zero => exact absurd h (Nat.not_lt_zero _)
  | succ j ih =>
    obtain ⟨h1, h2⟩ := mkLs_ex lf e n S j
    rw [mkLs_s]
    by_cases z : i = j
    · rw [z, ← h2]
      exact addN_new
    · obtain ⟨e1, e2, e3, e4⟩ := addN_old (S := mkLs lf e n S j) (b := lf) (c := min 4 (n - 4 * j)) (e := fun i => e (4 * j + i)) (k := s_nn S + i) (by omega)
      rw [e1, e2, e3, e4]
      exact ih (by omega)
/-- a level: c trees of the height h, of the first n of the elements -/
def LvI (S : sp_S) (h b c n : Nat) (vals : Nat → Int32) : Prop := n ≤ c * 4 ^ h ∧ (c ≠ 0 → (c - 1) * 4 ^ h < n) ∧ ∀ j, j < c → Reg S h (b + j) (min (4 ^ h) (n - j * 4 ^ h)) (fun i => vals (j * 4 ^ h + i))
theorem LvI_leaf {S : sp_S} {n : Nat} {vals : Nat → Int32} : LvI (mkLs true vals n S ((n + 3) / 4)) 1 (s_nn S) ((n + 3) / 4) n vals := by
  refine ⟨by rw [Nat.pow_one]; omega, fun h => by rw [Nat.pow_one]; omega, fun j hj => ?_⟩
  obtain ⟨h1, h2⟩ := mkLs_ex true vals n S ((n + 3) / 4)
  obtain ⟨e1, e2, e3, e4⟩ := mkLs_at true vals n S ((n + 3) / 4) j hj
  rw [Nat.pow_one]
  refine ⟨by omega, e1, ⟨by omega, by rw [Nat.pow_zero]; omega, ?_⟩, ?_, fun _ i hi => ?_, fun z => absurd rfl z⟩
  · rw [e3, Nat.pow_zero, Nat.div_one]; omega
  · rw [e2]; simp
  · rw [e4]
    show vals (4 * j + i) = vals (j * 4 + i)
    rw [Nat.mul_comm]
theorem LvI_step {S : sp_S} {h b c n : Nat} {vals : Nat → Int32} (g : LvI S (h + 1) b c n vals) (hnn : s_nn S < 2 ^ 31) : LvI (mkLs false (fun j => nI (b + j)) c S ((c + 3) / 4)) (h + 2) (s_nn S) ((c + 3) / 4) n vals := by
  obtain ⟨g1, g2, g3⟩ := g
  have hb := p4_pos (h + 1)
  have hpw : 4 ^ (h + 2) = 4 ^ (h + 1) * 4 := Nat.pow_succ 4 (h + 1)
  have hmul : ∀ q, q * 4 ^ (h + 2) = (4 * q) * 4 ^ (h + 1) := fun q => by rw [hpw, Nat.mul_comm 4 q, Nat.mul_assoc, Nat.mul_comm 4]
  have mono : ∀ a b, a ≤ b → a * 4 ^ (h + 1) ≤ b * 4 ^ (h + 1) := fun a b hab => Nat.mul_le_mul_right _ hab
  have sc : ∀ a, (a + 1) * 4 ^ (h + 1) = a * 4 ^ (h + 1) + 4 ^ (h + 1) := fun a => Nat.succ_mul _ _
  refine ⟨?_, fun hc => ?_, fun j hj => ?_⟩
  · rw [hmul]; exact Nat.le_trans g1 (mono _ _ (by omega))
  · rw [hmul]; exact Nat.lt_of_le_of_lt (mono _ _ (by omega)) (g2 (by omega))
  · obtain ⟨h1, h2⟩ := mkLs_ex false (fun j => nI (b + j)) c S ((c + 3) / 4)
    obtain ⟨e1, e2, e3, e4⟩ := mkLs_at false (fun j => nI (b + j)) c S ((c + 3) / 4) j hj
    have hjc : 4 * j < c := by omega
    have g2' := g2 (by omega)
    have hlow : (4 * j) * 4 ^ (h + 1) < n := Nat.lt_of_le_of_lt (mono _ _ (show 4 * j ≤ c - 1 by omega)) g2'
    rw [hmul]
    refine ⟨by omega, e1, ⟨by omega, by omega, ?_⟩, ?_, fun z => absurd z (Nat.succ_ne_zero _), fun _ i hi => ?_⟩
    · rw [e3]
      have hcs := sc (c - 1)
      rw [show c - 1 + 1 = c by omega] at hcs
      have e : (min (4 ^ (h + 2)) (n - 4 * j * 4 ^ (h + 1)) - 1) / 4 ^ (h + 1) = min 4 (c - 4 * j) - 1 := by
        have hx : ∀ q, q < 4 → q * 4 ^ (h + 1) ≤ min (4 ^ (h + 2)) (n - 4 * j * 4 ^ (h + 1)) - 1 → min (4 ^ (h + 2)) (n - 4 * j * 4 ^ (h + 1)) - 1 < (q + 1) * 4 ^ (h + 1) → (min (4 ^ (h + 2)) (n - 4 * j * 4 ^ (h + 1)) - 1) / 4 ^ (h + 1) = q := fun q _ ha hb' => by
          have := (Nat.le_div_iff_mul_le hb).mpr ha
          have := (Nat.div_lt_iff_lt_mul hb).mpr hb'
          omega
        have e41 : (4 * j + 1) * 4 ^ (h + 1) = 4 * j * 4 ^ (h + 1) + 4 ^ (h + 1) := sc _
        have e42 : (4 * j + 2) * 4 ^ (h + 1) = 4 * j * 4 ^ (h + 1) + 4 ^ (h + 1) + 4 ^ (h + 1) := by rw [show 4 * j + 2 = 4 * j + 1 + 1 from rfl, sc, sc]
        have e43 : (4 * j + 3) * 4 ^ (h + 1) = 4 * j * 4 ^ (h + 1) + 4 ^ (h + 1) + 4 ^ (h + 1) + 4 ^ (h + 1) := by rw [show 4 * j + 3 = 4 * j + 1 + 1 + 1 from rfl, sc, sc, sc]
        rcases Nat.lt_or_ge c (4 * j + 2) with y | y
        · have : c = 4 * j + 1 := by omega
          subst this
          rw [hx 0 (by omega) (by omega) (by omega)]; omega
        rcases Nat.lt_or_ge c (4 * j + 3) with y | y
        · have : c = 4 * j + 2 := by omega
          subst this
          rw [show 4 * j + 2 - 1 = 4 * j + 1 by omega] at g2'
          rw [hx 1 (by omega) (by omega) (by omega)]; omega
        rcases Nat.lt_or_ge c (4 * j + 4) with y | y
        · have : c = 4 * j + 3 := by omega
          subst this
          rw [show 4 * j + 3 - 1 = 4 * j + 2 by omega] at g2'
          rw [hx 2 (by omega) (by omega) (by omega)]; omega
        · have h9 := mono _ _ (show 4 * j + 3 ≤ c - 1 by omega)
          rw [hx 3 (by omega) (by omega) (by omega)]; omega
      rw [e]; omega
    · rw [e2]; simp
    · rw [e3] at hi
      have he : s_chd (mkLs false (fun j => nI (b + j)) c S ((c + 3) / 4)) (s_nn S + j) i = b + (4 * j + i) := by
        unfold s_chd; rw [e4]
        have := (g3 (4 * j + i) (by omega)).lt
        exact nI_clamp (by omega)
      rw [he]
      have ei : (4 * j + i) * 4 ^ (h + 1) = 4 * j * 4 ^ (h + 1) + i * 4 ^ (h + 1) := Nat.add_mul _ _ _
      refine (h1.reg (g3 (4 * j + i) (by omega))).cast ?_ (fun q _ => by rw [ei, Nat.add_assoc])
      have h10 : (i + 1) * 4 ^ (h + 1) ≤ 4 * 4 ^ (h + 1) := mono _ _ (by omega)
      rw [sc] at h10
      omega
def bld : Nat → sp_S → Nat → Nat → sp_S × Nat × Nat
  | 0, S, b, c => (S, b, c)
  | f + 1, S, b, c => if c ≤ 1 then (S, b, c) else bld f (mkLs false (fun j => nI (b + j)) c S ((c + 3) / 4)) (s_nn S) ((c + 3) / 4)
def lv1 (n : Nat) (vals : Nat → Int32) : sp_S := mkLs true vals n s_mt ((n + 3) / 4)
def begT (n : Nat) (vals : Nat → Int32) : sp_S × Nat × Nat := bld 3 (lv1 n vals) 0 ((n + 3) / 4)
def begS (n : Nat) (vals : Nat → Int32) : sp_S := addV (begT n vals).1 none n (if (begT n vals).2.2 = 0 then none else some (begT n vals).2.1) 0 vals
theorem bld_le {f : Nat} {S : sp_S} {b c : Nat} (h : c ≤ 1) : bld f S b c = (S, b, c) := by
  cases f with
  | zero => rfl
  | succ f => exact if_pos h
theorem bld_gt {f : Nat} {S : sp_S} {b c : Nat} (h : ¬ c ≤ 1) : bld (f + 1) S b c = bld f (mkLs false (fun j => nI (b + j)) c S ((c + 3) / 4)) (s_nn S) ((c + 3) / 4) := if_neg h
theorem WF_mt : WF s_mt := ⟨Nat.zero_le _, Nat.zero_le _, fun _ h => absurd h (Nat.not_lt_zero _), fun _ h => absurd h (Nat.not_lt_zero _)⟩
theorem gE {ev : Nat → Int32} {i : Nat} (j : Nat) : upd (fun j => if j < i then ev j else 0) i (ev i) j = if j < i + 1 then ev j else 0 := by
  by_cases z : j = i
  · rw [z, if_pos (Nat.lt_succ_self _)]; exact pk_us
  · rw [pk_un z]
    by_cases y : j < i
    · rw [if_pos y, if_pos (by omega)]
    · rw [if_neg y, if_neg (by omega)]
/-- the first store of a list -/
theorem begT_ok {n : Nat} {ev : Nat → Int32} (hn : n ≤ 64) : WF (begT n ev).1 ∧ s_nv (begT n ev).1 = 0 ∧ s_nn (begT n ev).1 ≤ 21 ∧ (begT n ev).2.2 ≤ 1 ∧ LvI (begT n ev).1 (if n ≤ 4 then 1 else if n ≤ 16 then 2 else 3) (begT n ev).2.1 (begT n ev).2.2 n ev := by
  have x1 := mkLs_ex true ev n s_mt ((n + 3) / 4)
  have n1 : s_nn (lv1 n ev) = (n + 3) / 4 := x1.2.trans (Nat.zero_add _)
  have W1 : WF (lv1 n ev) := mkLs_WF WF_mt (fun h => by cases h) (by show 0 + _ ≤ _; omega)
  have L1 : LvI (lv1 n ev) 1 0 ((n + 3) / 4) n ev := LvI_leaf
  unfold begT
  by_cases c1 : (n + 3) / 4 ≤ 1
  · rw [bld_le c1, if_pos (show n ≤ 4 by omega)]
    exact ⟨W1, x1.1.1, by show s_nn (lv1 n ev) ≤ 21; omega, c1, L1⟩
  · rw [bld_gt c1, if_neg (show ¬ n ≤ 4 by omega)]
    have x2 := mkLs_ex false (fun j => nI (0 + j)) ((n + 3) / 4) (lv1 n ev) (((n + 3) / 4 + 3) / 4)
    have W2 : WF (mkLs false (fun j => nI (0 + j)) ((n + 3) / 4) (lv1 n ev) (((n + 3) / 4 + 3) / 4)) := mkLs_WF W1 (fun _ i hi => ⟨_, by omega, rfl⟩) (by omega)
    have L2 := LvI_step L1 (by omega)
    have n2 := x2.2
    have v2 := x2.1.1.trans x1.1.1
    by_cases c2 : ((n + 3) / 4 + 3) / 4 ≤ 1
    · rw [bld_le c2, if_pos (show n ≤ 16 by omega)]
      exact ⟨W2, v2, by show s_nn (mkLs _ _ _ _ _) ≤ 21; omega, c2, L2⟩
    · rw [bld_gt c2, if_neg (show ¬ n ≤ 16 by omega), bld_le (by omega)]
      have x3 := mkLs_ex false (fun j => nI (s_nn (lv1 n ev) + j)) (((n + 3) / 4 + 3) / 4) (mkLs false (fun j => nI (0 + j)) ((n + 3) / 4) (lv1 n ev) (((n + 3) / 4 + 3) / 4)) ((((n + 3) / 4 + 3) / 4 + 3) / 4)
      have L3 := LvI_step L2 (by omega)
      exact ⟨mkLs_WF W2 (fun _ i hi => ⟨_, by omega, rfl⟩) (by omega), x3.1.1.trans v2, by show s_nn (mkLs _ _ _ _ _) ≤ 21; rw [x3.2]; omega, by show ((((n + 3) / 4 + 3) / 4 + 3) / 4) ≤ 1; omega, L3⟩
theorem begT_reg {n : Nat} {ev : Nat → Int32} (hn : n ≤ 64) : RegO (begT n ev).1 (hf n) (if (begT n ev).2.2 = 0 then none else some (begT n ev).2.1) n ev ∧ ∀ r, (if (begT n ev).2.2 = 0 then none else some (begT n ev).2.1) = some r → r < s_nn (begT n ev).1 := by
  obtain ⟨-, -, -, h4, h5, h6, h7⟩ := begT_ok (ev := ev) hn
  by_cases z : (begT n ev).2.2 = 0
  · rw [if_pos z]
    rw [z, Nat.zero_mul] at h5
    exact ⟨by show n = 0; omega, fun r hr => by cases hr⟩
  · rw [if_neg z]
    have h8 := h7 0 (by omega)
    have h0 : n ≠ 0 := by have := h8.one; omega
    have e : hf n = (if n ≤ 4 then 1 else if n ≤ 16 then 2 else 3) := by unfold hf; rw [if_neg h0]
    have h9 : Reg (begT n ev).1 (hf n) (begT n ev).2.1 n ev := by
      rw [e]
      refine h8.cast ?_ (fun j _ => by rw [Nat.zero_mul, Nat.zero_add])
      rw [Nat.zero_mul, ← e]
      have := hf_p4 hn
      omega
    exact ⟨h9, fun r hr => by cases hr; exact hhg_lt h9.hgt⟩
