/-! the text: tokens -/
def run (P : Nat → Bool) : Nat → Nat → Nat
  | 0, p => p
  | f + 1, p => if P p = true then run P f (p + 1) else p
def R_ (P : Nat → Bool) (n p : Nat) : Nat := run P (n - p) p
theorem R_t {P : Nat → Bool} {n p : Nat} (hp : p < n) (h : P p = true) : R_ P n p = R_ P n (p + 1) := by
  unfold R_
  rw [show n - p = (n - (p + 1)) + 1 by omega]
  exact if_pos h
theorem R_f {P : Nat → Bool} {n p : Nat} (h : P p = false) : R_ P n p = p := by
  unfold R_
  cases n - p with
  | zero => rfl
  | succ f => exact if_neg (by rw [h]; decide)
theorem run_le {P : Nat → Bool} : ∀ {f p : Nat}, p ≤ run P f p ∧ run P f p ≤ p + f := by
  intro f
  induction f with
  | zero => intro p; exact ⟨Nat.le_refl _, Nat.le_refl _⟩
  | succ f ih =>
    intro p
    unfold run
    split
    · have := ih (p := p + 1); omega
    · omega
theorem R_le {P : Nat → Bool} {n p : Nat} (h : p ≤ n) : p ≤ R_ P n p ∧ R_ P n p ≤ n := by
  have := run_le (P := P) (f := n - p) (p := p)
  unfold R_; omega
/-- bytes of spaces, letters, digits -/
def bS (b : Nat → Int32) (n i : Nat) : Bool := decide (i < n) && (decide (b i = 32) || decide (b i = 10))
def bL (b : Nat → Int32) (n i : Nat) : Bool := decide (i < n) && decide (97 ≤ (b i).toInt ∧ (b i).toInt ≤ 122)
def bD (b : Nat → Int32) (n i : Nat) : Bool := decide (i < n) && decide (48 ≤ (b i).toInt ∧ (b i).toInt ≤ 57)
/-- the value of digits -/
def dv (b : Nat → Int32) (s : Nat) : Nat → Int32
  | 0 => 0
  | k + 1 => if k < 3 then 10 * dv b s k + b (s + k) - 48 else dv b s k
def tkS (b : Nat → Int32) (n p : Nat) : Nat := R_ (bS b n) n p
def tkE (b : Nat → Int32) (n p : Nat) : Nat := if tkS b n p = n then n else if bL b n (tkS b n p) = true then R_ (bL b n) n (tkS b n p) else if bD b n (tkS b n p) = true then R_ (bD b n) n (tkS b n p) else tkS b n p + 1
def tkK (b : Nat → Int32) (n p : Nat) : Nat := if tkS b n p = n then 0 else if bL b n (tkS b n p) = true then (if 8 < tkE b n p - tkS b n p then 4 else 1) else if bD b n (tkS b n p) = true then (if 3 < tkE b n p - tkS b n p then 4 else 2) else if b (tkS b n p) = 59 then 3 else 4
def tkV (b : Nat → Int32) (n p : Nat) : Int32 := dv b (tkS b n p) (tkE b n p - tkS b n p)
theorem tkS_le {b : Nat → Int32} {n p : Nat} (h : p ≤ n) : p ≤ tkS b n p ∧ tkS b n p ≤ n := R_le h
theorem tkE_le {b : Nat → Int32} {n p : Nat} (h : p ≤ n) : tkS b n p ≤ tkE b n p ∧ tkE b n p ≤ n := by
  obtain ⟨h1, h2⟩ := tkS_le (b := b) h
  unfold tkE
  split
  · omega
  · split
    · exact R_le h2
    · split
      · exact R_le h2
      · omega
theorem R_gt {P : Nat → Bool} {n p : Nat} (hp : p < n) (h : P p = true) : p < R_ P n p := by
  rw [R_t hp h]
  have := R_le (P := P) (n := n) (p := p + 1) (by omega)
  omega
theorem tkE_gt {b : Nat → Int32} {n p : Nat} (h : p ≤ n) (hk : tkK b n p ≠ 0) : p < tkE b n p := by
  obtain ⟨h1, h2⟩ := tkS_le (b := b) h
  have hne : tkS b n p ≠ n := fun z => hk (by unfold tkK; rw [if_pos z])
  unfold tkE
  rw [if_neg hne]
  split
  · next z => have := R_gt (show tkS b n p < n by omega) z; omega
  · split
    · next z => have := R_gt (show tkS b n p < n by omega) z; omega
    · omega
section TK
variable {b : Nat → Int32} {n p q e : Nat}
theorem tk_end (h : tkS b n p = q) (hq : q = n) : tkE b n p = q ∧ tkK b n p = 0 := by
  unfold tkE tkK; rw [h, if_pos hq, if_pos hq]; exact ⟨hq.symm, rfl⟩
theorem tk_word (h : tkS b n p = q) (hq : q ≠ n) (hl : bL b n q = true) (he : R_ (bL b n) n q = e) : tkE b n p = e ∧ tkK b n p = if 8 < e - q then 4 else 1 := by
  have h1 : tkE b n p = e := by unfold tkE; rw [h, if_neg hq, if_pos hl, he]
  refine ⟨h1, ?_⟩
  unfold tkK; rw [h1, h, if_neg hq, if_pos hl]
theorem tk_num (h : tkS b n p = q) (hq : q ≠ n) (hl : bL b n q = false) (hd : bD b n q = true) (he : R_ (bD b n) n q = e) : tkE b n p = e ∧ tkK b n p = (if 3 < e - q then 4 else 2) ∧ tkV b n p = dv b q (e - q) := by
  have h1 : tkE b n p = e := by unfold tkE; rw [h, if_neg hq, if_neg (by rw [hl]; decide), if_pos hd, he]
  refine ⟨h1, ?_, ?_⟩
  · unfold tkK; rw [h1, h, if_neg hq, if_neg (by rw [hl]; decide), if_pos hd]
  · unfold tkV; rw [h1, h]
theorem tk_oth (h : tkS b n p = q) (hq : q ≠ n) (hl : bL b n q = false) (hd : bD b n q = false) : tkE b n p = q + 1 ∧ tkK b n p = if b q = 59 then 3 else 4 := by
  unfold tkE tkK
  rw [h, if_neg hq, if_neg hq, if_neg (by rw [hl]; decide), if_neg (by rw [hd]; decide), if_neg (by rw [hl]; decide), if_neg (by rw [hd]; decide)]
  exact ⟨rfl, rfl⟩
end TK
theorem w_bt (x : Int32) (lo hi : Int32) : decide (lo.toInt64 ≤ x.toInt64 ∧ x.toInt64 ≤ hi.toInt64) = decide (lo.toInt ≤ x.toInt ∧ x.toInt ≤ hi.toInt) := by
  congr 1; apply propext; rw [l64_le, l64_le]
theorem bS_t {b : Nat → Int32} {n q : Nat} (h : q < n) (h2 : b q = 32 ∨ b q = 10) : bS b n q = true := by
  unfold bS; rw [decide_eq_true h]
  rcases h2 with z | z <;> rw [z] <;> rfl
theorem bS_f {b : Nat → Int32} {n q : Nat} (h : ¬ q < n ∨ (b q ≠ 32 ∧ b q ≠ 10)) : bS b n q = false := by
  unfold bS
  rcases h with z | ⟨z1, z2⟩
  · rw [decide_eq_false z]; rfl
  · rw [decide_eq_false z1, decide_eq_false z2, Bool.or_false, Bool.and_false]
theorem bL_lt {b : Nat → Int32} {n q : Nat} (h : bL b n q = true) : q < n := of_decide_eq_true (and_tt h).1
theorem bD_lt {b : Nat → Int32} {n q : Nat} (h : bD b n q = true) : q < n := of_decide_eq_true (and_tt h).1
/-- the twin's token, and its text -/
def PT (b : Nat → Int32) (n p : Nat) (I : Nat → Int32) : Prop := I 20 = nI 0 ∧ I 16 = nI (tkS b n p) ∧ I 17 = nI (tkE b n p) ∧ I 18 = nI (tkK b n p) ∧ (tkK b n p = 2 → I 19 = tkV b n p)
def TX_ (b : Nat → Int32) (n : Nat) (I : Nat → Int32) (F : Nat → Nat → Int32) : Prop := I 13 = nI n ∧ n ≤ 600 ∧ ∀ i, i < n → F 12 i = b i
theorem dv_s1 {b : Nat → Int32} {q e : Nat} (h : q ≤ e) (h3 : e - q < 3) : 10 * dv b q (e - q) + b e - 48 = dv b q (e + 1 - q) := by
  rw [show e + 1 - q = (e - q) + 1 by omega]
  show _ = if e - q < 3 then 10 * dv b q (e - q) + b (q + (e - q)) - 48 else dv b q (e - q)
  rw [if_pos h3, show q + (e - q) = e by omega]
theorem dv_s2 {b : Nat → Int32} {q e : Nat} (h : q ≤ e) (h3 : ¬ e - q < 3) : dv b q (e - q) = dv b q (e + 1 - q) := by
  rw [show e + 1 - q = (e - q) + 1 by omega]
  exact (if_neg h3).symm
abbrev pR (α : Type) : Type := Except (Nat × Nat) α
/-- the state of the parse: at a token, or with a fault -/
def PS (b : Nat → Int32) (n : Nat) (r : pR Nat) (I : Nat → Int32) : Prop := match r with
  | .ok p => p ≤ n ∧ PT b n p I
  | .error (c, o) => (1 ≤ c ∧ c ≤ 3) ∧ I 20 = nI c ∧ I 21 = nI o
def p_adv (b : Nat → Int32) (n : Nat) (r : pR Nat) : pR Nat := match r with
  | .ok p => .ok (tkE b n p)
  | .error e => .error e
def p_exp (b : Nat → Int32) (n : Nat) (r : pR Nat) (h : Bool) (cd : Nat) : pR Nat := match r with
  | .ok p => if h = true then .ok p else .error (cd, tkS b n p)
  | .error e => .error e
/-- the fault's code, 0 if there is none -/
def p_code {α : Type} (r : pR α) : Nat := match r with
  | .ok _ => 0
  | .error (c, _) => c
def p_off {α : Type} (r : pR α) : Option Nat := match r with
  | .ok _ => none
  | .error (_, o) => some o
theorem PS.f20 {b : Nat → Int32} {n : Nat} {r : pR Nat} {I : Nat → Int32} (h : PS b n r I) : I 20 = nI (p_code r) ∧ p_code r ≤ 3 := by
  cases r with
  | ok p => exact ⟨h.2.1, Nat.zero_le _⟩
  | error e => exact ⟨h.2.1, h.1.2⟩
theorem p_exp_ok (b : Nat → Int32) (n p : Nat) (h : Bool) (cd : Nat) : p_exp b n (.ok p) h cd = if h = true then .ok p else .error (cd, tkS b n p) := rfl
