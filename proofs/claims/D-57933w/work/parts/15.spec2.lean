/-! nodes that are reached, counted -/
theorem Hgt.chd {S : sp_S} {h k : Nat} (g : Hgt S (h + 1) k) (hl : s_leaf S k = false) {i : Nat} (hi : i < s_cnt S k) : Hgt S h (s_chd S k i) := g.2.2 (fun z => absurd (g.2.1.mpr z) (by rw [hl]; decide)) i hi
theorem nds_leaf {S : sp_S} {h k : Nat} (hl : s_leaf S k = true) : nds S (h + 1) k = [k] := by
  simp only [nds]; rw [if_pos hl]
theorem nds_inner {S : sp_S} {h k : Nat} (hl : s_leaf S k = false) : nds S (h + 1) k = k :: (List.range (s_cnt S k)).flatMap (fun i => nds S h (s_chd S k i)) := by
  simp only [nds]; rw [if_neg (by rw [hl]; decide)]
theorem flatMap_congr' {α β : Type} {l : List α} {f g : α → List β} (h : ∀ a, a ∈ l → f a = g a) : l.flatMap f = l.flatMap g := by
  induction l with
  | nil => rfl
  | cons a l ih => rw [List.flatMap_cons, List.flatMap_cons, h a List.mem_cons_self, ih (fun b hb => h b (List.mem_cons_of_mem _ hb))]
theorem nds_h {S : sp_S} : ∀ {h d k : Nat}, Hgt S h k → h ≤ d → nds S d k = nds S h k := by
  intro h
  induction h with
  | zero => intro d k g; exact g.elim
  | succ h ih =>
    intro d k g hd
    obtain ⟨d, rfl⟩ : ∃ z, d = z + 1 := ⟨d - 1, by omega⟩
    cases hl : s_leaf S k with
    | true => rw [nds_leaf hl, nds_leaf hl]
    | false =>
      rw [nds_inner hl, nds_inner hl]
      congr 1
      exact flatMap_congr' (fun i hi => ih (g.chd hl (List.mem_range.mp hi)) (by omega))
def ndO (S : sp_S) (h : Nat) (o : Option Nat) : List Nat := match o with
  | none => []
  | some r => nds S h r
theorem nds_lt {S : sp_S} : ∀ {h k : Nat}, Hgt S h k → ∀ j, j ∈ nds S h k → j < s_nn S := by
  intro h
  induction h with
  | zero => intro k g; exact g.elim
  | succ h ih =>
    intro k g j hj
    cases hl : s_leaf S k with
    | true => rw [nds_leaf hl, List.mem_singleton] at hj; rw [hj]; exact g.1
    | false =>
      rw [nds_inner hl] at hj
      rcases List.mem_cons.mp hj with rfl | hj
      · exact g.1
      · obtain ⟨i, hi, hj⟩ := List.mem_flatMap.mp hj
        exact ih (g.chd hl (List.mem_range.mp hi)) j hj
theorem flatMap_len {α β : Type} (l : List α) (f : α → List β) (c : Nat) (h : ∀ a, a ∈ l → (f a).length ≤ c) : (l.flatMap f).length ≤ l.length * c := by
  induction l with
  | nil => simp
  | cons a l ih =>
    rw [List.flatMap_cons, List.length_append, List.length_cons, Nat.add_mul, Nat.one_mul, Nat.add_comm]
    exact Nat.add_le_add (ih (fun b hb => h b (List.mem_cons_of_mem _ hb))) (h a List.mem_cons_self)
def pw4 : Nat → Nat
  | 0 => 0
  | h + 1 => 1 + 4 * pw4 h
theorem nds_len {S : sp_S} (hW : WF S) : ∀ {h k : Nat}, Hgt S h k → (nds S h k).length ≤ pw4 h := by
  intro h
  induction h with
  | zero => intro k g; exact g.elim
  | succ h ih =>
    intro k g
    have hc := hW.cnt g.1
    cases hl : s_leaf S k with
    | true => rw [nds_leaf hl]; simp only [List.length_singleton, pw4]; omega
    | false =>
      rw [nds_inner hl, List.length_cons]
      have h1 := flatMap_len (List.range (s_cnt S k)) (fun i => nds S h (s_chd S k i)) (pw4 h) (fun i hi => ih (g.chd hl (List.mem_range.mp hi)))
      rw [List.length_range] at h1
      have h2 : s_cnt S k * pw4 h ≤ 4 * pw4 h := Nat.mul_le_mul_right _ hc
      simp only [pw4]
      omega
theorem pw4_le {h : Nat} (hh : h ≤ 3) : pw4 h ≤ 21 := by
  rcases (show h = 0 ∨ h = 1 ∨ h = 2 ∨ h = 3 by omega) with rfl | rfl | rfl | rfl <;> decide
/-- live versions' roots lie at their heights -/
def HG (S : sp_S) : Prop := ∀ v, v < s_nv S → s_rel S v = false → ∀ r, s_root S v = some r → Hgt S (hf (s_len S v)) r
theorem HG.tne {S : sp_S} (hG : HG S) {v : Nat} (hv : v < s_nv S) (hl : s_rel S v = false) : tn S v = ndO S (hf (s_len S v)) (s_root S v) := by
  unfold tn ndO
  cases hr : s_root S v with
  | none => rfl
  | some r => exact nds_h (hG v hv hl r hr) (hf_le _)
theorem HG.tn_len {S : sp_S} (hG : HG S) (hW : WF S) {v : Nat} (hv : v < s_nv S) (hl : s_rel S v = false) : (tn S v).length ≤ 21 := by
  rw [hG.tne hv hl]
  unfold ndO
  cases hr : s_root S v with
  | none => exact Nat.zero_le _
  | some r => exact Nat.le_trans (nds_len hW (hG v hv hl r hr)) (pw4_le (hf_le _))
theorem HG.tn_lt {S : sp_S} (hG : HG S) {v : Nat} (hv : v < s_nv S) (hl : s_rel S v = false) {j : Nat} (hj : j ∈ tn S v) : j < s_nn S := by
  rw [hG.tne hv hl] at hj
  unfold ndO at hj
  cases hr : s_root S v with
  | none => rw [hr] at hj; cases hj
  | some r => rw [hr] at hj; exact nds_lt (hG v hv hl r hr) j hj
/-- how many live versions below n reach k -/
def rcN (S : sp_S) (n k : Nat) : Nat := sumN n (fun v => if s_rel S v = true then 0 else List.count k (tn S v))
theorem rcN_succ (S : sp_S) (n k : Nat) : rcN S (n + 1) k = rcN S n k + (if s_rel S n = true then 0 else List.count k (tn S n)) := rfl
theorem rcN_le {S : sp_S} (hG : HG S) (hW : WF S) (k : Nat) : ∀ n, n ≤ s_nv S → rcN S n k ≤ 21 * n := by
  intro n
  induction n with
  | zero => intro _; exact Nat.le_refl _
  | succ n ih =>
    intro h
    have h1 := ih (by omega)
    rw [rcN_succ]
    cases hl : s_rel S n with
    | true => simp; omega
    | false =>
      have h2 := hG.tn_len hW (show n < s_nv S by omega) hl
      have h3 := List.count_le_length (a := k) (l := tn S n)
      simp; omega
theorem rcN_0 {S : sp_S} (k : Nat) : ∀ n, rcN S n k = 0 ↔ rchB S n k = false := by
  intro n
  induction n with
  | zero => exact ⟨fun _ => rfl, fun _ => rfl⟩
  | succ n ih =>
    rw [rcN_succ]
    unfold rchB s_live
    cases hl : s_rel S n with
    | true => simp [ih]
    | false =>
      simp only [Bool.not_false, Bool.true_and, Bool.or_eq_false_iff, Bool.false_eq_true, if_false]
      rw [Nat.add_eq_zero_iff, ih, List.count_eq_zero]
      constructor
      · rintro ⟨a, b⟩; exact ⟨a, by simpa using b⟩
      · rintro ⟨a, b⟩; exact ⟨a, by simpa using b⟩
theorem rch_pos {S : sp_S} (k : Nat) : (0 < rcN S (s_nv S) k) ↔ rch S k = true := by
  have := rcN_0 (S := S) k (s_nv S)
  unfold rch
  cases h : rchB S (s_nv S) k with
  | true => constructor
            · intro _; rfl
            · intro _; rcases Nat.eq_zero_or_pos (rcN S (s_nv S) k) with z | z
              · rw [this.mp z] at h; cases h
              · exact z
  | false => have h2 := this.mpr h
             constructor
             · intro h3; omega
             · intro h3; cases h3
theorem TRu {F : Nat → Nat → Int32} {S : sp_S} {j i : Nat} {v : Int32} (h : j ≠ 0) (hR : TR (F 0) S) : TR (tw_u F j i v 0) S := by rw [tw_uo (Ne.symm h)]; exact hR
theorem TRx {F F1 : Nat → Nat → Int32} {S : sp_S} {L : List Nat} (h : eqx L F F1) (h0 : 0 ∉ L) (hR : TR (F 0) S) : TR (F1 0) S := by rw [h 0 h0]; exact hR
def isRt (S : sp_S) (k : Nat) : Bool := (List.range (s_nv S)).any (fun v => !s_rel S v && decide (s_root S v = some k))
theorem isRt_1 {S : sp_S} {k v : Nat} (hv : v < s_nv S) (hl : s_rel S v = false) (hr : s_root S v = some k) : isRt S k = true := by
  unfold isRt; rw [List.any_eq_true]; exact ⟨v, List.mem_range.mpr hv, by rw [hl, decide_eq_true hr]; rfl⟩
theorem isRt_0 {S : sp_S} {k : Nat} (h : ∀ v, v < s_nv S → s_rel S v = false → s_root S v ≠ some k) : isRt S k = false := by
  unfold isRt; rw [List.any_eq_false]
  intro v hv
  cases hl : s_rel S v with
  | true => simp
  | false => simp; exact h v (List.mem_range.mp hv) hl
/-- references lead from k up to a root -/
def hld (S : sp_S) : Nat → Nat → Bool
  | 0, _ => false
  | d + 1, k => isRt S k || (List.range (s_nn S)).any (fun o => hsC S o k && hld S d o)
theorem hld_1 {S : sp_S} {d k o : Nat} (ho : o < s_nn S) (h1 : hsC S o k = true) (h2 : hld S d o = true) : hld S (d + 1) k = true := by
  simp only [hld]; rw [Bool.or_eq_true]; right; rw [List.any_eq_true]; exact ⟨o, List.mem_range.mpr ho, by rw [h1, h2]; rfl⟩
theorem hld_0 {S : sp_S} {d k : Nat} (hr : isRt S k = false) (h : ∀ o, o < s_nn S → hsC S o k = true → hld S d o = false) : hld S (d + 1) k = false := by
  simp only [hld]; rw [hr, Bool.false_or, List.any_eq_false]
  intro o ho
  cases h1 : hsC S o k with
  | false => simp
  | true => rw [h o (List.mem_range.mp ho) h1]; simp
theorem hsC_lt {S : sp_S} (hW : WF S) {o k : Nat} (ho : o < s_nn S) (h : hsC S o k = true) : k < o := by
  unfold hsC at h
  simp only [Bool.and_eq_true, List.any_eq_true, List.mem_range, beq_iff_eq, Bool.not_eq_true'] at h
  obtain ⟨⟨_, hl⟩, i, hi, he⟩ := h
  rw [← he]; exact (hW.ent ho hl hi).2
theorem rc_one {f : Nat → Int32} {r k : Nat} : upd f r (f r + nI 1) k = f k + nI (List.count k [r]) := by
  by_cases z : k = r
  · subst z; rw [pk_us]; simp
  · rw [pk_un z, List.count_eq_zero.mpr (by simp; exact z)]
    show f k = f k + nI 0
    rw [nI_0, Int32.add_zero]
theorem rc_step {x : Int32} {r k i : Nat} {g : Nat → List Nat} : x + nI (List.count k (r :: (List.range i).flatMap g)) + nI (List.count k (g i)) = x + nI (List.count k (r :: (List.range (i + 1)).flatMap g)) := by
  rw [Int32.add_assoc, nI_add, ← List.count_append, List.range_succ, List.flatMap_append, List.cons_append]
  simp
theorem rc_add (x : Int32) (a b : Nat) : x + nI a + nI b = x + nI (a + b) := by rw [Int32.add_assoc, nI_add]
/-- a version released, in the array -/
theorem TR_setR {F : Nat → Nat → Int32} {S : sp_S} {v : Nat} (hv : v < s_nv S) (hW : WF S) (hR : TR (F 0) S) : TR (tw_u F 0 (10 + 6 * v + 4) (nI 1) 0) (setR S v) := by
  have h1 := hW.nv
  have h2 := hW.nn
  rw [tw_us]
  refine ⟨by rw [pk_un (by omega)]; exact hR.nv, by rw [pk_un (by omega)]; exact hR.nn, fun w hw => ?_, fun k hk => ?_⟩
  · have hw' : w < s_nv S := hw
    by_cases z : w = v
    · subst z
      have e : (setR S w).2.2.1 w = (s_len S w, s_root S w, s_par S w, true, s_cre S w, s_els S w) := if_pos rfl
      refine ⟨?_, ?_, ?_, ?_, ?_, ?_, fun i hi => ?_⟩
      · rw [pk_un (by omega)]; unfold s_len; rw [e]; exact hR.len hw'
      · rw [pk_un (by omega)]; unfold s_root; rw [e]; exact hR.root hw'
      · rw [pk_un (by omega)]; unfold s_len; rw [e]; exact hR.hgt hw'
      · rw [pk_un (by omega)]; unfold s_par; rw [e]; exact hR.par hw'
      · rw [pk_us]; unfold s_rel; rw [e]; rfl
      · rw [pk_un (by omega)]; unfold s_cre; rw [e]; exact hR.cre hw'
      · unfold s_len at hi; rw [e] at hi
        have := hW.len hw'
        rw [pk_un (by omega)]; unfold s_els; rw [e]; exact hR.els hw' hi
    · have e : (setR S v).2.2.1 w = S.2.2.1 w := if_neg z
      refine ⟨?_, ?_, ?_, ?_, ?_, ?_, fun i hi => ?_⟩
      · rw [pk_un (by omega)]; unfold s_len; rw [e]; exact hR.len hw'
      · rw [pk_un (by omega)]; unfold s_root; rw [e]; exact hR.root hw'
      · rw [pk_un (by omega)]; unfold s_len; rw [e]; exact hR.hgt hw'
      · rw [pk_un (by omega)]; unfold s_par; rw [e]; exact hR.par hw'
      · rw [pk_un (by omega)]; unfold s_rel; rw [e]; exact hR.rel hw'
      · rw [pk_un (by omega)]; unfold s_cre; rw [e]; exact hR.cre hw'
      · unfold s_len at hi; rw [e] at hi
        have := hW.len hw'
        rw [pk_un (by omega)]; unfold s_els; rw [e]; exact hR.els hw' hi
  · have hk' : k < s_nn S := hk
    exact ⟨by rw [pk_un (by omega)]; exact hR.leaf hk', by rw [pk_un (by omega)]; exact hR.cnt hk', fun i hi => by have := hW.cnt hk'; have hi' : i < s_cnt S k := hi; rw [pk_un (by omega)]; exact hR.ent hk' hi', by rw [pk_un (by omega)]; exact hR.sto hk'⟩
theorem setR_acc (S : sp_S) (v w : Nat) : s_len (setR S v) w = s_len S w ∧ s_root (setR S v) w = s_root S w ∧ s_par (setR S v) w = s_par S w ∧ s_rel (setR S v) w = (if w = v then true else s_rel S w) ∧ s_cre (setR S v) w = s_cre S w ∧ s_els (setR S v) w = s_els S w := by
  unfold s_len s_root s_par s_rel s_cre s_els
  by_cases z : w = v
  · subst z
    have e : (setR S w).2.2.1 w = (s_len S w, s_root S w, s_par S w, true, s_cre S w, s_els S w) := if_pos rfl
    rw [e, if_pos rfl]
    exact ⟨rfl, rfl, rfl, rfl, rfl, rfl⟩
  · have e : (setR S v).2.2.1 w = S.2.2.1 w := if_neg z
    rw [e, if_neg z]
    exact ⟨rfl, rfl, rfl, rfl, rfl, rfl⟩
theorem WF_setR {S : sp_S} {v : Nat} (h : WF S) : WF (setR S v) := by
  refine ⟨h.1, h.2.1, fun w hw => ?_, h.2.2.2⟩
  obtain ⟨e1, e2, e3, -⟩ := setR_acc S v w
  rw [e1, e2, e3]
  exact h.2.2.1 w hw
theorem Hgt_node {S T : sp_S} (h1 : s_nn S = s_nn T) (h2 : ∀ k, s_leaf S k = s_leaf T k ∧ s_cnt S k = s_cnt T k ∧ s_ent S k = s_ent T k) : ∀ {h k : Nat}, Hgt S h k → Hgt T h k := by
  intro h
  induction h with
  | zero => intro k g; exact g
  | succ h ih =>
    intro k g
    obtain ⟨e1, e2, e3⟩ := h2 k
    refine ⟨by rw [← h1]; exact g.1, by rw [← e1]; exact g.2.1, fun z i hi => ?_⟩
    have : s_chd T k i = s_chd S k i := by unfold s_chd; rw [e3]
    rw [this]
    exact ih (g.2.2 z i (by rw [e2]; exact hi))
theorem HG_setR {S : sp_S} {v : Nat} (h : HG S) : HG (setR S v) := by
  intro w hw hl r hr
  obtain ⟨e1, e2, e3, e4, -⟩ := setR_acc S v w
  rw [e4] at hl
  by_cases z : w = v
  · rw [if_pos z] at hl; cases hl
  · rw [if_neg z] at hl
    rw [e2] at hr
    rw [e1]
    exact Hgt_node (S := S) (T := setR S v) rfl (fun _ => ⟨rfl, rfl, rfl⟩) (h w hw hl r hr)
theorem nds_node {S T : sp_S} (h2 : ∀ k, s_leaf S k = s_leaf T k ∧ s_cnt S k = s_cnt T k ∧ s_ent S k = s_ent T k) : ∀ (h k : Nat), nds S h k = nds T h k := by
  intro h
  induction h with
  | zero => intro k; rfl
  | succ h ih =>
    intro k
    obtain ⟨e1, e2, e3⟩ := h2 k
    simp only [nds]
    rw [e1, e2]
    have : ∀ i, nds S h (s_chd S k i) = nds T h (s_chd T k i) := fun i => by rw [ih]; unfold s_chd; rw [e3]
    simp only [this]
theorem tn_setR (S : sp_S) (v w : Nat) : tn (setR S v) w = tn S w := by
  unfold tn
  rw [(setR_acc S v w).2.1]
  cases s_root S w with
  | none => rfl
  | some r => exact nds_node (fun _ => ⟨rfl, rfl, rfl⟩) 3 r
theorem rchB_setR {S : sp_S} {v : Nat} (n k : Nat) (h : rchB (setR S v) n k = true) : rchB S n k = true := by
  induction n with
  | zero => exact h
  | succ n ih =>
    simp only [rchB, s_live, Bool.or_eq_true, Bool.and_eq_true] at h ⊢
    rcases h with h | ⟨h, h'⟩
    · exact Or.inl (ih h)
    · right
      rw [(setR_acc S v n).2.2.2.1] at h
      rw [tn_setR] at h'
      by_cases z : n = v
      · rw [if_pos z] at h; cases h
      · rw [if_neg z] at h; exact ⟨h, h'⟩
theorem cB_mono {n : Nat} {p q : Nat → Bool} (h : ∀ k, k < n → p k = true → q k = true) : cB n p ≤ cB n q := by
  induction n with
  | zero => exact Nat.le_refl _
  | succ n ih =>
    rw [cB_succ, cB_succ]
    have h1 := ih (fun k hk => h k (by omega))
    cases hp : p n with
    | true => rw [h n (by omega) hp]; simp; omega
    | false => simp; omega
theorem garb_mono (S : sp_S) (v : Nat) : s_garb S ≤ s_garb (setR S v) := by
  refine cB_mono (fun k _ h => ?_)
  simp only [Bool.and_eq_true, Bool.not_eq_true'] at h ⊢
  refine ⟨h.1, ?_⟩
  cases z : rch (setR S v) k with
  | false => rfl
  | true => have h3 : rch S k = true := rchB_setR _ k z; rw [h.2] at h3; cases h3
/-- .. and back -/
theorem TR_unR {F : Nat → Nat → Int32} {S : sp_S} {v : Nat} (hv : v < s_nv S) (hW : WF S) (hl : s_rel S v = false) (hR : TR (F 0) (setR S v)) : TR (tw_u F 0 (10 + 6 * v + 4) (nI 0) 0) S := by
  have h1 := hW.nv
  have h2 := hW.nn
  rw [tw_us]
  refine ⟨by rw [pk_un (by omega)]; exact hR.nv, by rw [pk_un (by omega)]; exact hR.nn, fun w hw => ?_, fun k hk => ?_⟩
  · obtain ⟨e1, e2, e3, e4, e5, e6⟩ := setR_acc S v w
    have hlw := hW.len hw
    refine ⟨?_, ?_, ?_, ?_, ?_, ?_, fun i hi => ?_⟩
    · rw [pk_un (by omega), ← e1]; exact hR.len hw
    · rw [pk_un (by omega), ← e2]; exact hR.root hw
    · rw [pk_un (by omega), ← e1]; exact hR.hgt hw
    · rw [pk_un (by omega), ← e3]; exact hR.par hw
    · by_cases z : w = v
      · subst z; rw [pk_us, hl]; rfl
      · rw [pk_un (by omega)]; have := hR.rel (v := w) hw; rw [this, e4, if_neg z]
    · rw [pk_un (by omega), ← e5]; exact hR.cre hw
    · rw [pk_un (by omega), ← e6]; exact hR.els hw (by rw [e1]; exact hi)
  · exact ⟨by rw [pk_un (by omega)]; exact hR.leaf hk, by rw [pk_un (by omega)]; exact hR.cnt hk, fun i hi => by have := hW.cnt hk; rw [pk_un (by omega)]; exact hR.ent hk hi, by rw [pk_un (by omega)]; exact hR.sto hk⟩
theorem TR_coll {f g : Nat → Int32} {S : sp_S} (hW : WF S) (hR : TR f S) (h1 : ∀ k, k < s_nn S → g (2810 + 7 * k + 6) = mm_b (s_sto S k && rch S k)) (h2 : ∀ j, (∀ k, k < s_nn S → j ≠ 2810 + 7 * k + 6) → g j = f j) : TR g (coll S) := by
  have hnv := hW.nv
  have hnn := hW.nn
  refine ⟨(h2 0 (by omega)).trans hR.nv, (h2 1 (by omega)).trans hR.nn, fun w hw => ?_, fun k hk => ?_⟩
  · have hw' : w < s_nv S := hw
    have hlw := hW.len hw'
    refine ⟨(h2 _ (by omega)).trans (hR.len hw'), (h2 _ (by omega)).trans (hR.root hw'), (h2 _ (by omega)).trans (hR.hgt hw'), (h2 _ (by omega)).trans (hR.par hw'), (h2 _ (by omega)).trans (hR.rel hw'), (h2 _ (by omega)).trans (hR.cre hw'), fun i hi => ?_⟩
    have hi' : i < s_len S w := hi
    exact (h2 _ (by omega)).trans (hR.els hw' hi')
  · have hk' : k < s_nn S := hk
    have hc := hW.cnt hk'
    refine ⟨(h2 _ (by omega)).trans (hR.leaf hk'), (h2 _ (by omega)).trans (hR.cnt hk'), fun i hi => ?_, h1 k hk'⟩
    have hi' : i < s_cnt S k := hi
    exact (h2 _ (by omega)).trans (hR.ent hk' hi')
