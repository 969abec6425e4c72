/-! questions -/
theorem bb_tt {b : Bool} (h : (b && true && true) = true) : b = true := by cases b with | true => rfl | false => exact h
def isEl (S : sp_S) (x y : Int32) : Bool := hasE S x y && !s_rel S x.toNatClampNeg
def is2 (S : sp_S) (x y : Int32) : Bool := (inR x (s_nv S) && inR y (s_nv S)) && (!s_rel S x.toNatClampNeg && !s_rel S y.toNatClampNeg)
theorem and_tt {a b : Bool} (h : (a && b) = true) : a = true ∧ b = true := by
  cases a with
  | true => exact ⟨rfl, h⟩
  | false => cases h
theorem not_tt {a : Bool} (h : (!a) = true) : a = false := by cases a with | true => cases h | false => rfl
theorem isLv_in {S : sp_S} {a : Int32} (h : isLv S a = true) : inR a (s_nv S) = true ∧ s_rel S a.toNatClampNeg = false := by
  obtain ⟨h1, h2⟩ := and_tt h
  exact ⟨h1, not_tt h2⟩
theorem isSt_in {S : sp_S} {a : Int32} (h : isSt S a = true) : inR a (s_nn S) = true ∧ s_sto S a.toNatClampNeg = true := and_tt h
theorem hasE_in {S : sp_S} {a b : Int32} (h : hasE S a b = true) : inR a (s_nv S) = true := (and_tt h).1
theorem isEl_in {S : sp_S} {a b : Int32} (h : isEl S a b = true) : inR a (s_nv S) = true ∧ s_rel S a.toNatClampNeg = false ∧ inR b (s_len S a.toNatClampNeg) = true := by
  obtain ⟨h1, h2⟩ := and_tt h
  obtain ⟨h3, h4⟩ := and_tt h1
  have h5 := not_tt h2
  rw [h5] at h4
  exact ⟨h3, h5, h4⟩
theorem isEl_f {S : sp_S} {a b : Int32} (h : hasE S a b = false) : isEl S a b = false := by unfold isEl; rw [h]; rfl
theorem is2_in {S : sp_S} {a b : Int32} (h : is2 S a b = true) : inR a (s_nv S) = true ∧ inR b (s_nv S) = true ∧ s_rel S a.toNatClampNeg = false ∧ s_rel S b.toNatClampNeg = false := by
  obtain ⟨h1, h2⟩ := and_tt h
  obtain ⟨h3, h4⟩ := and_tt h1
  obtain ⟨h5, h6⟩ := and_tt h2
  exact ⟨h3, h4, not_tt h5, not_tt h6⟩
theorem ckl {S : sp_S} {a : Int32} {b : Bool} (h : b = isLv S a) : (inR a (s_nv S) && b && true) = isLv S a := by
  rw [h]; unfold isLv; cases inR a (s_nv S) <;> simp
theorem cke {S : sp_S} {a c : Int32} {b : Bool} (h : b = isEl S a c) : (hasE S a c && b && true) = isEl S a c := by
  rw [h]; unfold isEl; cases hasE S a c <;> simp
theorem ckt {S : sp_S} {a c : Int32} {b1 b2 : Bool} (h1 : b1 = (inR a (s_nv S) && inR c (s_nv S))) (h2 : b2 = is2 S a c) : (b1 && b2 && true) = is2 S a c := by
  rw [h1, h2]; unfold is2; cases (inR a (s_nv S) && inR c (s_nv S)) <;> simp
/-- an answer, if there is one -/
def qv (c : Bool) (v : Int32) : Int32 := if c = true then v else 0
theorem qv_t {c : Bool} {v : Int32} (h : c = true) : qv c v = v := if_pos h
theorem qv_f {c : Bool} {v : Int32} (h : c = false) : qv c v = 0 := if_neg (by rw [h]; decide)
def sI : Nat → (Nat → Int32) → Int32
  | 0, _ => 0
  | n + 1, f => sI n f + f n
/-- the first number below n that has p -/
def fI (n : Nat) (p : Nat → Bool) : Option Nat := (List.range n).find? p
theorem fI_some {n i : Nat} {p : Nat → Bool} (hi : i < n) (h : p i = true) (hn : ∀ j, j < i → p j = false) : fI n p = some i := by
  unfold fI
  rw [List.find?_range_eq_some]
  exact ⟨h, List.mem_range.mpr hi, fun j hj => by rw [hn j hj]; rfl⟩
theorem fI_none {n : Nat} {p : Nat → Bool} (hn : ∀ j, j < n → p j = false) : fI n p = none := by
  unfold fI
  rw [List.find?_eq_none]
  intro j hj
  rw [hn j (List.mem_range.mp hj)]; decide
/-- the first of the largest live versions -/
def lgV (S : sp_S) : Nat → Option Nat
  | 0 => none
  | n + 1 => if s_rel S n = true then lgV S n else match lgV S n with
    | none => some n
    | some b => if s_len S b < s_len S n then some n else some b
theorem lgV_a {S : sp_S} {n : Nat} (h : s_rel S n = true) : lgV S (n + 1) = lgV S n := if_pos h
theorem lgV_b {S : sp_S} {n : Nat} (h : s_rel S n = false) (h2 : lgV S n = none) : lgV S (n + 1) = some n := by
  unfold lgV; rw [if_neg (by rw [h]; decide), h2]
theorem lgV_c {S : sp_S} {n b : Nat} (h : s_rel S n = false) (h2 : lgV S n = some b) (h3 : s_len S b < s_len S n) : lgV S (n + 1) = some n := by
  unfold lgV; rw [if_neg (by rw [h]; decide), h2]; exact if_pos h3
theorem lgV_d {S : sp_S} {n b : Nat} (h : s_rel S n = false) (h2 : lgV S n = some b) (h3 : ¬ s_len S b < s_len S n) : lgV S (n + 1) = some b := by
  unfold lgV; rw [if_neg (by rw [h]; decide), h2]; exact if_neg h3
def cstO (S : sp_S) (h : Nat) (a b : Option Nat) : Nat := match a, b with
  | some x, some y => cst S h x y
  | _, _ => 0
theorem hf_z {n : Nat} : hf n = 0 ↔ n = 0 := by
  refine ⟨fun h => ?_, fun h => by rw [h]; rfl⟩
  cases n with
  | zero => rfl
  | succ n => have := hf_pos (n := n + 1) (Nat.succ_ne_zero n); omega
theorem RgV.none_iff {S : sp_S} {v : Nat} (g : RgV S v) : s_root S v = Option.none ↔ s_len S v = 0 := by
  refine ⟨fun h => ?_, g.none⟩
  unfold RgV at g
  rw [h] at g
  exact g
theorem rt_none {S : sp_S} {v w : Nat} (g : RgV S v) (g2 : RgV S w) (h : hf (s_len S v) = hf (s_len S w)) : s_root S v = Option.none ↔ s_root S w = Option.none := by
  rw [g.none_iff, g2.none_iff, ← hf_z, ← hf_z (n := s_len S w), h]
/-- the leaf with an index -/
def lfN (S : sp_S) : Nat → Nat → Nat → Nat
  | 0, k, _ => k
  | 1, k, _ => k
  | h + 2, k, i => lfN S (h + 1) (s_chd S k (i / 4 ^ (h + 1) % 4)) i
def lfO (S : sp_S) (h : Nat) (o : Option Nat) (i : Nat) : Nat := match o with
  | none => 0
  | some r => lfN S h r i
