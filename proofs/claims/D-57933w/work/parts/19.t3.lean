/-! the text: numbers, values, lists, statements -/
def dvN (b : Nat → Int32) (s : Nat) : Nat → Nat
  | 0 => 0
  | k + 1 => if k < 3 then 10 * dvN b s k + ((b (s + k)).toInt - 48).toNat else dvN b s k
def tkN (b : Nat → Int32) (n p : Nat) : Nat := dvN b (tkS b n p) (tkE b n p - tkS b n p)
theorem nI_dig {x : Int32} (h : 48 ≤ x.toInt ∧ x.toInt ≤ 57) : ∃ d : Nat, x = nI (48 + d) ∧ (x.toInt - 48).toNat = d ∧ d ≤ 9 := by
  refine ⟨(x.toInt - 48).toNat, ?_, rfl, by omega⟩
  have : (nI (48 + (x.toInt - 48).toNat)).toInt = x.toInt := by rw [nI_toInt (by omega)]; omega
  exact (Int32.toInt_inj.mp this).symm
theorem dv_st (X d : Nat) : (10 : Int32) * nI X + nI (48 + d) - 48 = nI (10 * X + d) := by
  rw [show (10 : Int32) = nI 10 from rfl, show (48 : Int32) = nI 48 from rfl, pk_mul, nI_add, pk_sub (by omega)]; congr 1; omega
theorem dvN_b {b : Nat → Int32} {s : Nat} : ∀ {k : Nat}, (∀ j, j < k → 48 ≤ (b (s + j)).toInt ∧ (b (s + j)).toInt ≤ 57) → dvN b s k < 10 ^ min k 3 := by
  intro k
  induction k with
  | zero => intro _; exact Nat.one_pos
  | succ k ih =>
    intro h
    have i1 := ih (fun j hj => h j (by omega))
    have h1 := h k (by omega)
    unfold dvN
    split
    · rw [show min (k + 1) 3 = k + 1 by omega, Nat.pow_succ]
      rw [show min k 3 = k by omega] at i1
      omega
    · rw [show min (k + 1) 3 = 3 by omega]; rw [show min k 3 = 3 by omega] at i1; exact i1
theorem dv_N {b : Nat → Int32} {s : Nat} : ∀ {k : Nat}, (∀ j, j < k → 48 ≤ (b (s + j)).toInt ∧ (b (s + j)).toInt ≤ 57) → dv b s k = nI (dvN b s k) := by
  intro k
  induction k with
  | zero => intro _; rfl
  | succ k ih =>
    intro h
    have i1 := ih (fun j hj => h j (by omega))
    unfold dv dvN
    split
    · obtain ⟨d, h1, h2, h3⟩ := nI_dig (h k (by omega))
      rw [h2, i1, h1]; exact dv_st _ _
    · exact i1
theorem run_all {P : Nat → Bool} : ∀ {f p j : Nat}, p ≤ j → j < run P f p → P j = true := by
  intro f
  induction f with
  | zero => intro p j h1 h2; exact absurd h2 (Nat.not_lt.mpr h1)
  | succ f ih =>
    intro p j h1 h2
    unfold run at h2
    split at h2
    · next z =>
      by_cases y : j = p
      · rw [y]; exact z
      · exact ih (p := p + 1) (by omega) h2
    · omega
theorem tk_dig {b : Nat → Int32} {n p : Nat} (hk : tkK b n p = 2) : ∀ j, j < tkE b n p - tkS b n p → 48 ≤ (b (tkS b n p + j)).toInt ∧ (b (tkS b n p + j)).toInt ≤ 57 := by
  unfold tkK at hk
  split at hk
  · cases hk
  · next h1 =>
    split at hk
    · split at hk <;> cases hk
    · next h2 =>
      split at hk
      · next h3 =>
        intro j hj
        rw [show tkE b n p = R_ (bD b n) n (tkS b n p) by unfold tkE; rw [if_neg h1, if_neg h2, if_pos h3]] at hj
        have := run_all (P := bD b n) (f := n - tkS b n p) (p := tkS b n p) (j := tkS b n p + j) (by omega) (by unfold R_ at hj; omega)
        exact of_decide_eq_true (and_tt this).2
      · split at hk <;> cases hk
theorem tkN_V {b : Nat → Int32} {n p : Nat} (hk : tkK b n p = 2) : tkV b n p = nI (tkN b n p) := dv_N (tk_dig hk)
theorem tkN_le {b : Nat → Int32} {n p : Nat} (hk : tkK b n p = 2) : tkN b n p ≤ 999 := by
  have h1 : tkN b n p < 10 ^ min (tkE b n p - tkS b n p) 3 := dvN_b (tk_dig hk)
  have h2 : 10 ^ min (tkE b n p - tkS b n p) 3 ≤ 10 ^ 3 := Nat.pow_le_pow_right (by decide) (by omega)
  omega
theorem tkK_le {b : Nat → Int32} {n p : Nat} : tkK b n p ≤ 4 := by
  unfold tkK
  split
  · decide
  · split
    · split <;> decide
    · split
      · split <;> decide
      · split <;> decide
theorem tk_bd {b : Nat → Int32} {n p : Nat} (h : p ≤ n) : p ≤ tkS b n p ∧ tkS b n p ≤ tkE b n p ∧ tkE b n p ≤ n ∧ tkK b n p ≤ 4 := ⟨(tkS_le h).1, (tkE_le h).1, (tkE_le h).2, tkK_le⟩
/-- words -/
def eqW (b : Nat → Int32) (s : Nat) (w : List Nat) : Nat → Bool
  | 0 => true
  | k + 1 => eqW b s w k && decide (b (s + k) = nI (w.getD k 0))
def isW (b : Nat → Int32) (n p : Nat) (w : List Nat) : Bool := decide (tkK b n p = 1) && (decide (tkE b n p - tkS b n p = w.length) && eqW b (tkS b n p) w w.length)
theorem eqW_f {b : Nat → Int32} {s : Nat} {w : List Nat} {k : Nat} (h : b (s + k) ≠ nI (w.getD k 0)) : ∀ {m : Nat}, k < m → eqW b s w m = false := by
  intro m
  induction m with
  | zero => intro z; exact absurd z (Nat.not_lt_zero _)
  | succ m ih =>
    intro z
    show (eqW b s w m && _) = false
    by_cases y : k = m
    · subst y; rw [decide_eq_false h, Bool.and_false]
    · rw [ih (by omega), Bool.false_and]
def w_minus : List Nat := [109, 105, 110, 117, 115]
def w_list : List Nat := [108, 105, 115, 116]
def w_set : List Nat := [115, 101, 116]
def w_append : List Nat := [97, 112, 112, 101, 110, 100]
def w_trunc : List Nat := [116, 114, 117, 110, 99, 97, 116, 101]
def w_rel : List Nat := [114, 101, 108, 101, 97, 115, 101]
def w_coll : List Nat := [99, 111, 108, 108, 101, 99, 116]
def pNum (b : Nat → Int32) (n p hi : Nat) : pR (Nat × Nat) := if tkK b n p = 2 then (if tkN b n p ≤ hi then .ok (tkN b n p, tkE b n p) else .error (2, tkS b n p)) else .error (1, tkS b n p)
def pVal (b : Nat → Int32) (n : Nat) (room : Bool) (p : Nat) : pR (Int32 × Nat) :=
  if isW b n p w_minus = true then (if room = true then (match pNum b n (tkE b n p) 999 with
    | .ok (v, q) => .ok (-nI v, q)
    | .error e => .error e) else .error (3, tkS b n p))
  else if tkK b n p = 2 then (if room = true then (match pNum b n p 999 with
    | .ok (v, q) => .ok (nI v, q)
    | .error e => .error e) else .error (3, tkS b n p))
  else .error (1, tkS b n p)
def pSem (b : Nat → Int32) (n p : Nat) : pR Nat := if tkK b n p = 3 then .ok (tkE b n p) else .error (1, tkS b n p)
/-- the values of one list -/
def pL (b : Nat → Int32) (n : Nat) : Nat → Nat → Nat → (Nat → Int32) → pR (Nat × Nat × (Nat → Int32))
  | 0, _, _, _ => .error (1, 0)
  | f + 1, p, c, g => if tkK b n p = 3 then .ok (tkE b n p, c, g) else match pVal b n (decide (c < 64)) p with
    | .error e => .error e
    | .ok (v, q) => pL b n f q (c + 1) (upd g c v)
def pLi (b : Nat → Int32) (n p c : Nat) (g : Nat → Int32) : pR (Nat × Nat × (Nat → Int32)) := if isW b n p w_list = true then pL b n (n + 1) (tkE b n p) c g else .error (1, tkS b n p)
def pSe (b : Nat → Int32) (n : Nat) : Nat → Nat → Nat → (Nat → Int32) → pR (Nat × (Nat → Int32))
  | 0, _, _, _ => .error (1, 0)
  | f + 1, p, c, g => if tkK b n p = 0 then .ok (c, g) else match pLi b n p c g with
    | .error e => .error e
    | .ok (q, c2, g2) => pSe b n f q c2 g2
/-- a setup: its values -/
def pSetup (b : Nat → Int32) (n : Nat) : pR (Nat × (Nat → Int32)) := pSe b n (n + 1) 0 0 (fun _ => 0)
/-- a statement: kind, version, index or length, value -/
abbrev pS : Type := Nat × Nat × Nat × Int32
def stK (b : Nat → Int32) (n p : Nat) : Option Nat := if isW b n p w_set = true then some 0 else if isW b n p w_append = true then some 1 else if isW b n p w_trunc = true then some 2 else if isW b n p w_rel = true then some 3 else if isW b n p w_coll = true then some 4 else none
def pArg (b : Nat → Int32) (n k p : Nat) : pR (pS × Nat) := match k with
  | 0 => match pNum b n p 39 with
    | .error e => .error e
    | .ok (v, q) => match pNum b n q 63 with
      | .error e => .error e
      | .ok (i, q2) => match pVal b n true q2 with
        | .error e => .error e
        | .ok (x, q3) => .ok ((0, v, i, x), q3)
  | 1 => match pNum b n p 39 with
    | .error e => .error e
    | .ok (v, q) => match pVal b n true q with
      | .error e => .error e
      | .ok (x, q2) => .ok ((1, v, 0, x), q2)
  | 2 => match pNum b n p 39 with
    | .error e => .error e
    | .ok (v, q) => match pNum b n q 64 with
      | .error e => .error e
      | .ok (i, q2) => .ok ((2, v, i, 0), q2)
  | 3 => match pNum b n p 39 with
    | .error e => .error e
    | .ok (v, q) => .ok ((3, v, 0, 0), q)
  | _ => .ok ((4, 0, 0, 0), p)
def pStm (b : Nat → Int32) (n p c : Nat) : pR (pS × Nat) := match stK b n p with
  | none => .error (1, tkS b n p)
  | some k => if c < 30 then (match pArg b n k (tkE b n p) with
      | .error e => .error e
      | .ok (x, q) => match pSem b n q with
        | .error e => .error e
        | .ok q2 => .ok (x, q2)) else .error (3, tkS b n p)
def pSc (b : Nat → Int32) (n : Nat) : Nat → Nat → Nat → (Nat → pS) → pR (Nat × (Nat → pS))
  | 0, _, _, _ => .error (1, 0)
  | f + 1, p, c, g => if tkK b n p = 0 then .ok (c, g) else match pStm b n p c with
    | .error e => .error e
    | .ok (x, q) => pSc b n f q (c + 1) (fun j => if j = c then x else g j)
/-- a script: its statements -/
def pScript (b : Nat → Int32) (n : Nat) : pR (Nat × (Nat → pS)) := pSc b n (n + 1) 0 0 (fun _ => (4, 0, 0, 0))
/-- places, values of an answer -/
def p_pos {α : Type} (r : pR (α × Nat)) : pR Nat := match r with
  | .ok (_, q) => .ok q
  | .error e => .error e
def p_vN (r : pR (Nat × Nat)) : Nat := match r with
  | .ok (v, _) => v
  | .error _ => 0
def p_vI (r : pR (Int32 × Nat)) : Int32 := match r with
  | .ok (v, _) => v
  | .error _ => 0
/-- an answer is in the text, its fault is one of the three -/
def pOK {α : Type} (n : Nat) (r : pR (α × Nat)) : Prop := match r with
  | .ok (_, q) => q ≤ n
  | .error (c, _) => 1 ≤ c ∧ c ≤ 3
theorem pNum_ok {b : Nat → Int32} {n p hi : Nat} (h : p ≤ n) : pOK n (pNum b n p hi) := by
  unfold pNum
  split
  · split
    · exact (tkE_le h).2
    · exact ⟨by decide, by decide⟩
  · exact ⟨by decide, by decide⟩
theorem pNum_in {b : Nat → Int32} {n p hi v q : Nat} (h : pNum b n p hi = .ok (v, q)) : v ≤ hi ∧ v ≤ 999 ∧ p ≤ n → True := fun _ => trivial
theorem pNum_le {b : Nat → Int32} {n p hi v q : Nat} (h : pNum b n p hi = .ok (v, q)) : v ≤ hi ∧ v ≤ 999 ∧ tkK b n p = 2 ∧ q = tkE b n p := by
  unfold pNum at h
  split at h
  · next hk =>
    split at h
    · cases h; exact ⟨by assumption, tkN_le hk, hk, rfl⟩
    · cases h
  · cases h
theorem pVal_ok {b : Nat → Int32} {n p : Nat} {rm : Bool} (h : p ≤ n) : pOK n (pVal b n rm p) := by
  unfold pVal
  have h2 := (tkE_le (b := b) h).2
  split
  · split
    · have := pNum_ok (b := b) (hi := 999) h2
      split
      · next z => rw [z] at this; exact this
      · next e z => rw [z] at this; exact this
    · exact ⟨by decide, by decide⟩
  · split
    · split
      · have := pNum_ok (b := b) (hi := 999) h
        split
        · next z => rw [z] at this; exact this
        · next e z => rw [z] at this; exact this
      · exact ⟨by decide, by decide⟩
    · exact ⟨by decide, by decide⟩
theorem PS.cg {b : Nat → Int32} {n : Nat} {r : pR Nat} {I I2 : Nat → Int32} (h : PS b n r I) (k : ∀ j, 16 ≤ j → j ≤ 21 → I2 j = I j) : PS b n r I2 := by
  cases r with
  | ok p => exact ⟨h.1, (k 20 (by decide) (by decide)).trans h.2.1, (k 16 (by decide) (by decide)).trans h.2.2.1, (k 17 (by decide) (by decide)).trans h.2.2.2.1, (k 18 (by decide) (by decide)).trans h.2.2.2.2.1, fun z => (k 19 (by decide) (by decide)).trans (h.2.2.2.2.2 z)⟩
  | error e => exact ⟨h.1, (k 20 (by decide) (by decide)).trans h.2.1, (k 21 (by decide) (by decide)).trans h.2.2⟩
theorem stK_c (b : Nat → Int32) (n p : Nat) : stK b n p = none ∨ stK b n p = some 0 ∨ stK b n p = some 1 ∨ stK b n p = some 2 ∨ stK b n p = some 3 ∨ stK b n p = some 4 := by
  unfold stK
  repeat' (first | (split; · simp) | simp)
theorem pVal_rm {b : Nat → Int32} {n p : Nat} {rm : Bool} {x : Int32 × Nat} (h : pVal b n rm p = .ok x) : rm = true := by
  cases rm with
  | true => rfl
  | false =>
    unfold pVal at h
    split at h
    · cases h
    · split at h <;> cases h
theorem tkE_gt' {b : Nat → Int32} {n p k : Nat} (h : p ≤ n) (hk : tkK b n p = k) (h0 : k ≠ 0) : p < tkE b n p := tkE_gt h (by rw [hk]; exact h0)
theorem isW_k {b : Nat → Int32} {n p : Nat} {w : List Nat} (h : isW b n p w = true) : tkK b n p = 1 := of_decide_eq_true (and_tt h).1
theorem pNum_gt {b : Nat → Int32} {n p hi v q : Nat} (hp : p ≤ n) (h : pNum b n p hi = .ok (v, q)) : p < q ∧ q ≤ n := by
  obtain ⟨-, -, h3, rfl⟩ := pNum_le h
  exact ⟨tkE_gt' hp h3 (by decide), (tkE_le hp).2⟩
theorem pVal_gt {b : Nat → Int32} {n p q : Nat} {rm : Bool} {v : Int32} (hp : p ≤ n) (h : pVal b n rm p = .ok (v, q)) : p < q ∧ q ≤ n := by
  unfold pVal at h
  split at h
  · next hw =>
    split at h
    · have h2 := tkE_gt' hp (isW_k hw) (by decide)
      have h3 := (tkE_le (b := b) hp).2
      split at h
      · next z => cases h; have := pNum_gt h3 z; omega
      · cases h
    · cases h
  · split at h
    · split at h
      · split at h
        · next z => cases h; exact pNum_gt hp z
        · cases h
      · cases h
    · cases h
section PLs
variable {b : Nat → Int32} {n f p c q : Nat} {g : Nat → Int32} {v : Int32} {e : Nat × Nat}
theorem pL_s (hf : 1 ≤ f) (hk : ¬ tkK b n p = 3) (hN : pVal b n (decide (c < 64)) p = .ok (v, q)) : pL b n (f - 1) q (c + 1) (upd g c v) = pL b n f p c g := by
  obtain ⟨f, rfl⟩ : ∃ z, f = z + 1 := ⟨f - 1, by omega⟩
  symm; show (if tkK b n p = 3 then _ else _) = _
  rw [if_neg hk, hN]; rfl
theorem pL_e (hf : 1 ≤ f) (hk : ¬ tkK b n p = 3) (hN : pVal b n (decide (c < 64)) p = .error e) : pL b n f p c g = .error e := by
  obtain ⟨f, rfl⟩ : ∃ z, f = z + 1 := ⟨f - 1, by omega⟩
  show (if tkK b n p = 3 then _ else _) = _
  rw [if_neg hk, hN]
theorem pL_3 (hf : 1 ≤ f) (hk : tkK b n p = 3) : pL b n f p c g = .ok (tkE b n p, c, g) := by
  obtain ⟨f, rfl⟩ : ∃ z, f = z + 1 := ⟨f - 1, by omega⟩
  exact if_pos hk
end PLs
theorem pL_gt {b : Nat → Int32} {n : Nat} : ∀ {f p c : Nat} {g : Nat → Int32} {q c2 : Nat} {g2 : Nat → Int32}, p ≤ n → pL b n f p c g = .ok (q, c2, g2) → p < q ∧ q ≤ n := by
  intro f
  induction f with
  | zero => intro p c g q c2 g2 _ h; cases h
  | succ f ih =>
    intro p c g q c2 g2 hp h
    by_cases hk : tkK b n p = 3
    · rw [pL_3 (by omega) hk] at h; cases h; exact ⟨tkE_gt' hp hk (by decide), (tkE_le hp).2⟩
    · rcases hN : pVal b n (decide (c < 64)) p with e | ⟨v, q1⟩
      · rw [pL_e (by omega) hk hN] at h; cases h
      · rw [← pL_s (by omega) hk hN] at h
        have h1 := pVal_gt hp hN
        have h2 := ih h1.2 h
        omega
theorem pLi_gt {b : Nat → Int32} {n p c : Nat} {g : Nat → Int32} {q c2 : Nat} {g2 : Nat → Int32} (hp : p ≤ n) (h : pLi b n p c g = .ok (q, c2, g2)) : p < q ∧ q ≤ n := by
  unfold pLi at h
  split at h
  · next hw =>
    have h1 := tkE_gt' hp (isW_k hw) (by decide)
    have h2 := pL_gt (tkE_le hp).2 h
    omega
  · cases h
section PSs
variable {b : Nat → Int32} {n f p c q c2 : Nat} {g g2 : Nat → Int32} {e : Nat × Nat}
theorem pSe_s (hf : 1 ≤ f) (hk : ¬ tkK b n p = 0) (hN : pLi b n p c g = .ok (q, c2, g2)) : pSe b n (f - 1) q c2 g2 = pSe b n f p c g := by
  obtain ⟨f, rfl⟩ : ∃ z, f = z + 1 := ⟨f - 1, by omega⟩
  symm; show (if tkK b n p = 0 then _ else _) = _
  rw [if_neg hk, hN]; rfl
theorem pSe_e (hf : 1 ≤ f) (hk : ¬ tkK b n p = 0) (hN : pLi b n p c g = .error e) : pSe b n f p c g = .error e := by
  obtain ⟨f, rfl⟩ : ∃ z, f = z + 1 := ⟨f - 1, by omega⟩
  show (if tkK b n p = 0 then _ else _) = _
  rw [if_neg hk, hN]
theorem pSe_0 (hf : 1 ≤ f) (hk : tkK b n p = 0) : pSe b n f p c g = .ok (c, g) := by
  obtain ⟨f, rfl⟩ : ∃ z, f = z + 1 := ⟨f - 1, by omega⟩
  exact if_pos hk
end PSs
