/-! THE ABSTRACT STORE: versions (length, root, parent, released, created, elements), nodes (stored, leaf, count, entries) -/
abbrev sp_V : Type := Nat × Option Nat × Option Nat × Bool × Nat × (Nat → Int32)
abbrev sp_N : Type := Bool × Bool × Nat × (Nat → Int32)
abbrev sp_S : Type := Nat × Nat × (Nat → sp_V) × (Nat → sp_N)
def s_nv (S : sp_S) : Nat := S.1
def s_nn (S : sp_S) : Nat := S.2.1
def s_len (S : sp_S) (v : Nat) : Nat := (S.2.2.1 v).1
def s_root (S : sp_S) (v : Nat) : Option Nat := (S.2.2.1 v).2.1
def s_par (S : sp_S) (v : Nat) : Option Nat := (S.2.2.1 v).2.2.1
def s_rel (S : sp_S) (v : Nat) : Bool := (S.2.2.1 v).2.2.2.1
def s_cre (S : sp_S) (v : Nat) : Nat := (S.2.2.1 v).2.2.2.2.1
def s_els (S : sp_S) (v : Nat) : Nat → Int32 := (S.2.2.1 v).2.2.2.2.2
def s_sto (S : sp_S) (k : Nat) : Bool := (S.2.2.2 k).1
def s_leaf (S : sp_S) (k : Nat) : Bool := (S.2.2.2 k).2.1
def s_cnt (S : sp_S) (k : Nat) : Nat := (S.2.2.2 k).2.2.1
def s_ent (S : sp_S) (k : Nat) : Nat → Int32 := (S.2.2.2 k).2.2.2
def s_chd (S : sp_S) (k i : Nat) : Nat := (s_ent S k i).toNatClampNeg
/-- the height of a tree of n elements -/
def hf (n : Nat) : Nat := if n = 0 then 0 else if n ≤ 4 then 1 else if n ≤ 16 then 2 else 3
/-- how many numbers below n have p -/
def cB : Nat → (Nat → Bool) → Nat
  | 0, _ => 0
  | n + 1, p => cB n p + (if p n = true then 1 else 0)
theorem cB_le (n : Nat) (p : Nat → Bool) : cB n p ≤ n := by
  induction n with
  | zero => exact Nat.le_refl _
  | succ n ih => unfold cB; split <;> omega
theorem cB_succ (n : Nat) (p : Nat → Bool) : cB (n + 1) p = cB n p + (if p n = true then 1 else 0) := rfl
theorem cB_congr {n : Nat} {p q : Nat → Bool} (h : ∀ k, k < n → p k = q k) : cB n p = cB n q := by
  induction n with
  | zero => rfl
  | succ n ih => rw [cB_succ, cB_succ, ih (fun k hk => h k (by omega)), h n (by omega)]
theorem cB_split (n : Nat) (p q : Nat → Bool) : cB n p = cB n (fun k => p k && q k) + cB n (fun k => p k && !q k) := by
  induction n with
  | zero => rfl
  | succ n ih =>
    rw [cB_succ, cB_succ, cB_succ, ih]
    cases p n <;> cases q n <;> simp <;> omega
/-- the nodes of a tree, from its root on -/
def nds (S : sp_S) : Nat → Nat → List Nat
  | 0, _ => []
  | d + 1, r => r :: (if s_leaf S r = true then [] else (List.range (s_cnt S r)).flatMap (fun i => nds S d (s_chd S r i)))
/-- the nodes of a version's tree -/
def tn (S : sp_S) (v : Nat) : List Nat := match s_root S v with
  | none => []
  | some r => nds S 3 r
def s_live (S : sp_S) (v : Nat) : Bool := !s_rel S v
/-- a live version below n reaches k -/
def rchB (S : sp_S) : Nat → Nat → Bool
  | 0, _ => false
  | n + 1, k => rchB S n k || (s_live S n && (tn S n).contains k)
def rch (S : sp_S) (k : Nat) : Bool := rchB S (s_nv S) k
def s_garb (S : sp_S) : Nat := cB (s_nn S) (fun k => s_sto S k && !rch S k)
/-- how many steps a chain of parents has -/
def dO (S : sp_S) : Nat → Option Nat → Nat
  | 0, _ => 0
  | _ + 1, none => 0
  | n + 1, some p => dO S n (s_par S p) + 1
def dep (S : sp_S) (v : Nat) : Nat := dO S 40 (s_par S v)
/-- a node at the height h -/
def Hgt (S : sp_S) : Nat → Nat → Prop
  | 0, _ => False
  | h + 1, k => k < s_nn S ∧ (s_leaf S k = true ↔ h = 0) ∧ (h ≠ 0 → ∀ i, i < s_cnt S k → Hgt S h (s_chd S k i))
def sumN : Nat → (Nat → Nat) → Nat
  | 0, _ => 0
  | n + 1, f => sumN n f + f n
/-- the elements under a node -/
def eU (S : sp_S) : Nat → Nat → Nat
  | 0, _ => 0
  | h + 1, k => if s_leaf S k = true then s_cnt S k else sumN (s_cnt S k) (fun i => eU S h (s_chd S k i))
/-- the pairs visited when two trees are compared -/
def cst (S : sp_S) : Nat → Nat → Nat → Nat
  | 0, _, _ => 0
  | h + 1, a, b => if a = b then 0 else if s_leaf S a = true then 1 else 1 + sumN (min (s_cnt S a) (s_cnt S b)) (fun i => cst S h (s_chd S a i) (s_chd S b i))
def dfA (S : sp_S) (v w i : Nat) : Bool := if decide (i < s_len S v) = decide (i < s_len S w) then decide (i < s_len S v) && !decide (s_els S v i = s_els S w i) else true
/-- a new node -/
def addN (S : sp_S) (leaf : Bool) (cnt : Nat) (ent : Nat → Int32) : sp_S := (s_nv S, s_nn S + 1, S.2.2.1, fun k => if k = s_nn S then (true, leaf, cnt, ent) else S.2.2.2 k)
/-- a new version -/
def addV (S : sp_S) (par : Option Nat) (len : Nat) (root : Option Nat) (before : Nat) (els : Nat → Int32) : sp_S := (s_nv S + 1, s_nn S, fun v => if v = s_nv S then (len, root, par, false, s_nn S - before, els) else S.2.2.1 v, S.2.2.2)
/-- a version released -/
def setR (S : sp_S) (v : Nat) : sp_S := (s_nv S, s_nn S, fun w => if w = v then (s_len S v, s_root S v, s_par S v, true, s_cre S v, s_els S v) else S.2.2.1 w, S.2.2.2)
/-- the garbage collected -/
def coll (S : sp_S) : sp_S := (s_nv S, s_nn S, S.2.2.1, fun k => (s_sto S k && rch S k, s_leaf S k, s_cnt S k, s_ent S k))
def s_mt : sp_S := (0, 0, fun _ => (0, none, none, false, 0, fun _ => 0), fun _ => (false, false, 0, fun _ => 0))
/-- where F and F' are the same but for the arrays of L -/
def eqx (L : List Nat) (F F' : Nat → Nat → Int32) : Prop := ∀ j, j ∉ L → F' j = F j
theorem eqx.rf {L : List Nat} {F : Nat → Nat → Int32} : eqx L F F := fun _ _ => rfl
theorem eqx.tr {L : List Nat} {F F1 F2 : Nat → Nat → Int32} (h : eqx L F F1) (k : eqx L F1 F2) : eqx L F F2 := fun j hj => (k j hj).trans (h j hj)
theorem eqx.mono {L M : List Nat} {F F1 : Nat → Nat → Int32} (h : eqx L F F1) (hs : ∀ j ∈ L, j ∈ M) : eqx M F F1 := fun j hj => h j (fun z => hj (hs j z))
theorem eqx.u {L : List Nat} {F : Nat → Nat → Int32} {k i : Nat} {v : Int32} (h : k ∈ L) : eqx L F (tw_u F k i v) := fun j hj => tw_uo (fun z => hj (by rw [z]; exact h))
def exI (L : List Nat) (I I' : Nat → Int32) : Prop := ∀ j, j ∉ L → I' j = I j
theorem exI.rf {L : List Nat} {I : Nat → Int32} : exI L I I := fun _ _ => rfl
theorem exI.tr {L : List Nat} {I I1 I2 : Nat → Int32} (h : exI L I I1) (k : exI L I1 I2) : exI L I I2 := fun j hj => (k j hj).trans (h j hj)
theorem exI.mono {L M : List Nat} {I I1 : Nat → Int32} (h : exI L I I1) (hs : ∀ j ∈ L, j ∈ M) : exI M I I1 := fun j hj => h j (fun z => hj (hs j z))
theorem exI.u {L : List Nat} {I : Nat → Int32} {k : Nat} {v : Int32} (h : k ∈ L) : exI L I (upd I k v) := fun j hj => tw_un (fun z => hj (by rw [z]; exact h))
/-- what is needed to walk at all -/
def WF (S : sp_S) : Prop := s_nv S ≤ 40 ∧ s_nn S ≤ 190 ∧ (∀ v, v < s_nv S → s_len S v ≤ 64 ∧ (∀ r, s_root S v = some r → r < s_nn S) ∧ (∀ p, s_par S v = some p → p < v)) ∧ ∀ k, k < s_nn S → s_cnt S k ≤ 4 ∧ (s_leaf S k = false → ∀ i, i < s_cnt S k → ∃ j, j < k ∧ s_ent S k i = nI j)
theorem WF.nv {S : sp_S} (h : WF S) : s_nv S ≤ 40 := h.1
theorem WF.nn {S : sp_S} (h : WF S) : s_nn S ≤ 190 := h.2.1
theorem WF.len {S : sp_S} (h : WF S) {v : Nat} (hv : v < s_nv S) : s_len S v ≤ 64 := (h.2.2.1 v hv).1
theorem WF.root {S : sp_S} (h : WF S) {v : Nat} (hv : v < s_nv S) {r : Nat} (hr : s_root S v = some r) : r < s_nn S := (h.2.2.1 v hv).2.1 r hr
theorem WF.par {S : sp_S} (h : WF S) {v : Nat} (hv : v < s_nv S) {p : Nat} (hp : s_par S v = some p) : p < v := (h.2.2.1 v hv).2.2 p hp
theorem WF.cnt {S : sp_S} (h : WF S) {k : Nat} (hk : k < s_nn S) : s_cnt S k ≤ 4 := (h.2.2.2 k hk).1
theorem WF.ent {S : sp_S} (h : WF S) {k : Nat} (hk : k < s_nn S) (hl : s_leaf S k = false) {i : Nat} (hi : i < s_cnt S k) : s_ent S k i = nI (s_chd S k i) ∧ s_chd S k i < k := by
  obtain ⟨j, hj, he⟩ := (h.2.2.2 k hk).2 hl i hi
  have h1 := h.nn
  have h2 : s_chd S k i = j := by unfold s_chd; rw [he, nI_clamp (by omega)]
  rw [h2]; exact ⟨he, hj⟩
/-- the twin's array holds S -/
def TR (f : Nat → Int32) (S : sp_S) : Prop := f 0 = nI (s_nv S) ∧ f 1 = nI (s_nn S) ∧ (∀ v, v < s_nv S → f (10 + 6 * v) = nI (s_len S v) ∧ f (10 + 6 * v + 1) = oI (s_root S v) ∧ f (10 + 6 * v + 2) = nI (hf (s_len S v)) ∧ f (10 + 6 * v + 3) = oI (s_par S v) ∧ f (10 + 6 * v + 4) = mm_b (s_rel S v) ∧ f (10 + 6 * v + 5) = nI (s_cre S v) ∧ ∀ i, i < s_len S v → f (250 + 64 * v + i) = s_els S v i) ∧ ∀ k, k < s_nn S → f (2810 + 7 * k) = mm_b (s_leaf S k) ∧ f (2810 + 7 * k + 1) = nI (s_cnt S k) ∧ (∀ i, i < s_cnt S k → f (2810 + 7 * k + 2 + i) = s_ent S k i) ∧ f (2810 + 7 * k + 6) = mm_b (s_sto S k)
section TRs
variable {f : Nat → Int32} {S : sp_S}
theorem TR.nv (h : TR f S) : f 0 = nI (s_nv S) := h.1
theorem TR.nn (h : TR f S) : f 1 = nI (s_nn S) := h.2.1
theorem TR.len (h : TR f S) {v : Nat} (hv : v < s_nv S) : f (10 + 6 * v) = nI (s_len S v) := (h.2.2.1 v hv).1
theorem TR.root (h : TR f S) {v : Nat} (hv : v < s_nv S) : f (10 + 6 * v + 1) = oI (s_root S v) := (h.2.2.1 v hv).2.1
theorem TR.hgt (h : TR f S) {v : Nat} (hv : v < s_nv S) : f (10 + 6 * v + 2) = nI (hf (s_len S v)) := (h.2.2.1 v hv).2.2.1
theorem TR.par (h : TR f S) {v : Nat} (hv : v < s_nv S) : f (10 + 6 * v + 3) = oI (s_par S v) := (h.2.2.1 v hv).2.2.2.1
theorem TR.rel (h : TR f S) {v : Nat} (hv : v < s_nv S) : f (10 + 6 * v + 4) = mm_b (s_rel S v) := (h.2.2.1 v hv).2.2.2.2.1
theorem TR.cre (h : TR f S) {v : Nat} (hv : v < s_nv S) : f (10 + 6 * v + 5) = nI (s_cre S v) := (h.2.2.1 v hv).2.2.2.2.2.1
theorem TR.els (h : TR f S) {v : Nat} (hv : v < s_nv S) {i : Nat} (hi : i < s_len S v) : f (250 + 64 * v + i) = s_els S v i := (h.2.2.1 v hv).2.2.2.2.2.2 i hi
theorem TR.leaf (h : TR f S) {k : Nat} (hk : k < s_nn S) : f (2810 + 7 * k) = mm_b (s_leaf S k) := (h.2.2.2 k hk).1
theorem TR.cnt (h : TR f S) {k : Nat} (hk : k < s_nn S) : f (2810 + 7 * k + 1) = nI (s_cnt S k) := (h.2.2.2 k hk).2.1
theorem TR.ent (h : TR f S) {k : Nat} (hk : k < s_nn S) {i : Nat} (hi : i < s_cnt S k) : f (2810 + 7 * k + 2 + i) = s_ent S k i := (h.2.2.2 k hk).2.2.1 i hi
theorem TR.sto (h : TR f S) {k : Nat} (hk : k < s_nn S) : f (2810 + 7 * k + 6) = mm_b (s_sto S k) := (h.2.2.2 k hk).2.2.2
end TRs
/-- an int that is a place below n -/
def inR (x : Int32) (n : Nat) : Bool := decide (0 ≤ x.toInt ∧ x.toInt < (n : Int))
theorem inR_t {x : Int32} {n : Nat} (h : inR x n = true) : ∃ j, j < n ∧ x = nI j ∧ x.toNatClampNeg = j := by
  obtain ⟨h0, h1⟩ := of_decide_eq_true h
  have h3 : x.toInt < 2 ^ 31 := Int32.toInt_lt x
  have e : x = nI x.toInt.toNat := by
    rw [← Int32.toInt_inj, nI_toInt (by omega)]; omega
  exact ⟨x.toInt.toNat, by omega, e, rfl⟩
theorem inR_f {x : Int32} {n : Nat} (h : inR x n = false) : x.toInt < 0 ∨ (n : Int) ≤ x.toInt := by
  have := of_decide_eq_false h; omega
theorem inR_n {k n : Nat} (hk : k < 2 ^ 31) : inR (nI k) n = decide (k < n) := by
  unfold inR; rw [nI_toInt hk]; congr 1; apply propext; omega
theorem mm_d1 {P : Prop} [Decidable P] (h : P) : (some (Value.int (nI 1)) : Option Value) = some (.int (mm_b (decide P))) := by rw [decide_eq_true h]; rfl
theorem mm_d0 {P : Prop} [Decidable P] (h : ¬ P) : (some (Value.int (nI 0)) : Option Value) = some (.int (mm_b (decide P))) := by rw [decide_eq_false h]; rfl
theorem mm_e1 {b : Bool} (h : b = true) : (some (Value.int (nI 1)) : Option Value) = some (.int (mm_b b)) := by rw [h]; rfl
theorem mm_e0 {b : Bool} (h : b = false) : (some (Value.int (nI 0)) : Option Value) = some (.int (mm_b b)) := by rw [h]; rfl
theorem mm_iB (a : Nat) (b : Bool) : nI a + mm_b b = nI (a + (if b = true then 1 else 0)) := by
  cases b
  · exact nI_add a 0
  · exact nI_add a 1
theorem l64_0 : (0 : Int64) = (0 : Int32).toInt64 := by decide
theorem l64_le (a b : Int32) : a.toInt64 ≤ b.toInt64 ↔ a.toInt ≤ b.toInt := by
  rw [Int64.le_iff_toInt_le, Int32.toInt_toInt64, Int32.toInt_toInt64]
theorem nI_m1 {n : Nat} (h : n < 2 ^ 30) : (nI n - 1).toInt = (n : Int) - 1 := by
  have h1 : nI n - 1 = nI n - nI 1 := rfl
  rw [h1, pk_sub_toInt h (by decide)]; rfl
theorem w_inR (x : Int32) {n : Nat} (h : n < 2 ^ 30) : decide ((0 : Int64) ≤ x.toInt64 ∧ x.toInt64 ≤ (nI n - nI 1).toInt64) = inR x n := by
  unfold inR
  congr 1
  apply propext
  rw [l64_0, l64_le, l64_le, show nI n - nI 1 = nI n - 1 from rfl, nI_m1 h, show (0 : Int32).toInt = 0 from rfl]
  omega
theorem w_lit (x : Int32) (lo hi : Int32) : decide (lo.toInt64 ≤ x.toInt64 ∧ x.toInt64 ≤ hi.toInt64) = decide (lo.toInt ≤ x.toInt ∧ x.toInt ≤ hi.toInt) := by
  congr 1; apply propext; rw [l64_le, l64_le]
theorem hf_of {n h : Nat} (hi : h = 1 ∨ (h = 2 ∧ 4 < n) ∨ (h = 3 ∧ 16 < n)) (hn : n ≤ 64) (h0 : ¬ n = 0) (hx : n ≤ 4 ^ h) : hf n = h := by
  unfold hf
  rcases hi with rfl | ⟨rfl, h4⟩ | ⟨rfl, h4⟩
  · rw [if_neg h0, if_pos (by simpa using hx)]
  · rw [if_neg h0, if_neg (by omega), if_pos (by simpa using hx)]
  · rw [if_neg h0, if_neg (by omega), if_neg (by omega)]
theorem hf_le (n : Nat) : hf n ≤ 3 := by unfold hf; repeat' split
                                         all_goals omega
def isSt (S : sp_S) (x : Int32) : Bool := inR x (s_nn S) && s_sto S x.toNatClampNeg
def isLv (S : sp_S) (x : Int32) : Bool := inR x (s_nv S) && !s_rel S x.toNatClampNeg
def hasE (S : sp_S) (x y : Int32) : Bool := inR x (s_nv S) && (s_rel S x.toNatClampNeg || inR y (s_len S x.toNatClampNeg))
theorem isSt_n {S : sp_S} {j : Nat} (hj : j < s_nn S) (hnn : s_nn S ≤ 190) : isSt S (nI j) = s_sto S j := by
  unfold isSt; rw [inR_n (by omega), nI_clamp (by omega), decide_eq_true hj]; rfl
theorem isLv_n {S : sp_S} {j : Nat} (hj : j < s_nv S) (hnv : s_nv S ≤ 40) : isLv S (nI j) = !s_rel S j := by
  unfold isLv; rw [inR_n (by omega), nI_clamp (by omega), decide_eq_true hj]; rfl
theorem hasE_n {S : sp_S} {j : Nat} {y : Int32} (hj : j < s_nv S) (hnv : s_nv S ≤ 40) : hasE S (nI j) y = (s_rel S j || inR y (s_len S j)) := by
  unfold hasE; rw [inR_n (by omega), nI_clamp (by omega), decide_eq_true hj]; rfl
theorem isSt_f {S : sp_S} {x : Int32} (h : inR x (s_nn S) = false) : isSt S x = false := by unfold isSt; rw [h]; rfl
theorem isLv_f {S : sp_S} {x : Int32} (h : inR x (s_nv S) = false) : isLv S x = false := by unfold isLv; rw [h]; rfl
theorem hasE_f {S : sp_S} {x y : Int32} (h : inR x (s_nv S) = false) : hasE S x y = false := by unfold hasE; rw [h]; rfl
/-- which exception a check leaves -/
def ck (a b c : Bool) : Int32 := if a = false then 1 else if b = false then 2 else if c = false then 3 else 0
theorem dfA_1 {S : sp_S} {v w i : Nat} (h : ¬ (i < s_len S v ↔ i < s_len S w)) : dfA S v w i = true := by
  unfold dfA; rw [if_neg (fun z => h (by simpa using z))]
theorem dfA_2 {S : sp_S} {v w i : Nat} (h1 : i < s_len S v) (h2 : i < s_len S w) : dfA S v w i = !decide (s_els S v i = s_els S w i) := by
  unfold dfA; rw [if_pos (by simp [h1, h2]), decide_eq_true h1]; rfl
theorem dfA_3 {S : sp_S} {v w i : Nat} (h1 : ¬ i < s_len S v) (h2 : ¬ i < s_len S w) : dfA S v w i = false := by
  unfold dfA; rw [if_pos (by simp [h1, h2]), decide_eq_false h1]; rfl
theorem Hgt.lt {S : sp_S} {h k : Nat} (g : Hgt S h k) : k < s_nn S := by
  cases h with
  | zero => exact g.elim
  | succ h => exact g.1
theorem sumN_succ (n : Nat) (f : Nat → Nat) : sumN (n + 1) f = sumN n f + f n := rfl
/-- a stored inner node has the child c -/
def hsC (S : sp_S) (k : Nat) (c : Nat) : Bool := s_sto S k && !s_leaf S k && (List.range (s_cnt S k)).any (fun i => s_chd S k i == c)
theorem hsC_1 {S : sp_S} {k c i : Nat} (hs : s_sto S k = true) (hl : s_leaf S k = false) (hi : i < s_cnt S k) (he : s_chd S k i = c) : hsC S k c = true := by
  unfold hsC; rw [hs, hl]
  simp only [Bool.not_false, Bool.true_and, List.any_eq_true, List.mem_range, beq_iff_eq]
  exact ⟨i, hi, he⟩
theorem hsC_0 {S : sp_S} {k c : Nat} (h : s_sto S k = false ∨ s_leaf S k = true ∨ ∀ i, i < s_cnt S k → s_chd S k i ≠ c) : hsC S k c = false := by
  unfold hsC
  rcases h with h | h | h
  · rw [h]; rfl
  · rw [h, Bool.not_true, Bool.and_false]; rfl
  · have : (List.range (s_cnt S k)).any (fun i => s_chd S k i == c) = false := by
      rw [List.any_eq_false]
      intro i hi
      simp only [beq_iff_eq]
      exact h i (List.mem_range.mp hi)
    rw [this, Bool.and_false]
