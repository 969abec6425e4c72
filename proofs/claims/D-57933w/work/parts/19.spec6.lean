/-! regular trees: full but for the right edge, with their elements -/
def Reg (S : sp_S) : Nat → Nat → Nat → (Nat → Int32) → Prop
  | 0, _, _, _ => False
  | h + 1, k, n, e => k < s_nn S ∧ s_sto S k = true ∧ (1 ≤ n ∧ n ≤ 4 ^ h * 4 ∧ s_cnt S k = (n - 1) / 4 ^ h + 1) ∧ (s_leaf S k = true ↔ h = 0) ∧ (h = 0 → ∀ i, i < n → s_ent S k i = e i) ∧ (h ≠ 0 → ∀ i, i < s_cnt S k → Reg S h (s_chd S k i) (min (4 ^ h) (n - i * 4 ^ h)) (fun j => e (i * 4 ^ h + j)))
theorem Reg.hgt {S : sp_S} : ∀ {h k n : Nat} {e : Nat → Int32}, Reg S h k n e → Hgt S h k := by
  intro h
  induction h with
  | zero => intro k n e g; exact g
  | succ h ih => intro k n e g; exact ⟨g.1, g.2.2.2.1, fun z i hi => ih (g.2.2.2.2.2 z i hi)⟩
theorem Reg.lt {S : sp_S} {h k n : Nat} {e : Nat → Int32} (g : Reg S (h + 1) k n e) : k < s_nn S := g.1
theorem Reg.one {S : sp_S} : ∀ {h k n : Nat} {e : Nat → Int32}, Reg S h k n e → 1 ≤ n := by
  intro h
  cases h with
  | zero => intro k n e g; exact g.elim
  | succ h => intro k n e g; exact g.2.2.1.1
theorem Reg.congr {S : sp_S} : ∀ {h k n : Nat} {e e' : Nat → Int32}, (∀ j, j < n → e j = e' j) → Reg S h k n e → Reg S h k n e' := by
  intro h
  induction h with
  | zero => intro k n e e' _ g; exact g
  | succ h ih =>
    intro k n e e' he g
    obtain ⟨g1, g2, g3, g4, g5, g6⟩ := g
    refine ⟨g1, g2, g3, g4, fun z i hi => (g5 z i hi).trans (he i hi), fun z i hi => ih (fun j hj => he _ ?_) (g6 z i hi)⟩
    omega
theorem Reg.cast {S : sp_S} {h k n n' : Nat} {e e' : Nat → Int32} (g : Reg S h k n e) (hn : n = n') (he : ∀ j, j < n' → e j = e' j) : Reg S h k n' e' := by
  subst hn; exact Reg.congr he g
theorem exN.reg {S T : sp_S} (h : exN S T) : ∀ {d k n : Nat} {e : Nat → Int32}, Reg S d k n e → Reg T d k n e := by
  intro d
  induction d with
  | zero => intro k n e g; exact g
  | succ d ih =>
    intro k n e g
    obtain ⟨g1, g2, g3, g4, g5, g6⟩ := g
    obtain ⟨e1, e2, e3, e4⟩ := h.node g1
    refine ⟨Nat.lt_of_lt_of_le g1 h.2.2.1, e1.trans g2, by rw [e3]; exact g3, by rw [e2]; exact g4, fun z i hi => by rw [e4]; exact g5 z i hi, fun z i hi => ?_⟩
    rw [e3] at hi
    rw [h.chd g1]
    exact ih (g6 z i hi)
theorem dm (x b : Nat) (hb : 0 < b) : x / b * b + x % b = x ∧ x % b < b := ⟨by rw [Nat.mul_comm]; exact Nat.div_add_mod x b, Nat.mod_lt x hb⟩
theorem dv_lt {x y b : Nat} (hb : 0 < b) (h : x / b < y / b) : x / b * b + b ≤ y := by
  obtain ⟨h1, h2⟩ := dm y b hb
  have := Nat.mul_le_mul_right b h
  rw [Nat.succ_mul] at this
  omega
/-- a place below n lies in a child -/
theorem Reg.at {S : sp_S} {h k n idx : Nat} {e : Nat → Int32} (g : Reg S (h + 1) k n e) (hi : idx < n) : idx / 4 ^ h < s_cnt S k ∧ idx % 4 ^ h < min (4 ^ h) (n - idx / 4 ^ h * 4 ^ h) := by
  obtain ⟨h1, h2⟩ := dm idx (4 ^ h) (p4_pos h)
  obtain ⟨-, -, ⟨g1, g2, g3⟩, -⟩ := g
  have h3 := Nat.div_le_div_right (c := 4 ^ h) (show idx ≤ n - 1 by omega)
  exact ⟨by omega, by omega⟩
theorem Reg.inT {S : sp_S} : ∀ {h k n idx : Nat} {e : Nat → Int32}, Reg S h k n e → idx < n → inT S h k idx := by
  intro h
  induction h with
  | zero => intro k n idx e g _; exact g
  | succ h ih =>
    intro k n idx e g hi
    obtain ⟨h1, h2⟩ := g.at hi
    exact ⟨h1, fun z => ih (g.2.2.2.2.2 z _ h1) h2⟩
/-- a tree, or none of no elements -/
def RegO (S : sp_S) (h : Nat) (o : Option Nat) (n : Nat) (e : Nat → Int32) : Prop := match o with
  | none => n = 0
  | some k => Reg S h k n e
theorem RegO.hgt {S : sp_S} {h n : Nat} {o : Option Nat} {e : Nat → Int32} (g : RegO S h o n e) : HgO S h o := by
  intro r hr
  subst hr
  exact Reg.hgt g
theorem RegO.cnt {S : sp_S} {h n : Nat} {o : Option Nat} {e : Nat → Int32} (g : RegO S (h + 1) o n e) : cntO S o = if n = 0 then 0 else (n - 1) / 4 ^ h + 1 := by
  cases o with
  | none => exact (if_pos (show n = 0 from g)).symm
  | some k =>
    have h1 := g.2.2.1.1
    rw [if_neg (by omega)]
    exact g.2.2.1.2.2
theorem RegO.kid {S : sp_S} {h n p : Nat} (hz : h ≠ 0) {o : Option Nat} {e : Nat → Int32} (g : RegO S (h + 1) o n e) : RegO S h (kidO S o p) (min (4 ^ h) (n - p * 4 ^ h)) (fun j => e (p * 4 ^ h + j)) := by
  cases o with
  | none =>
    have hn : n = 0 := g
    show min (4 ^ h) (n - p * 4 ^ h) = 0
    rw [hn, Nat.zero_sub]; exact Nat.min_zero _
  | some k =>
    by_cases hp : p < s_cnt S k
    · rw [kidO_t rfl hp]
      exact g.2.2.2.2.2 hz p hp
    · rw [kidO_f rfl (by omega)]
      show min (4 ^ h) (n - p * 4 ^ h) = 0
      obtain ⟨g1, g2, g3⟩ := g.2.2.1
      obtain ⟨h1, h2⟩ := dm (n - 1) (4 ^ h) (p4_pos h)
      have h3 := Nat.mul_le_mul_right (4 ^ h) (show (n - 1) / 4 ^ h + 1 ≤ p by omega)
      rw [Nat.succ_mul] at h3
      omega
theorem RegO.exT {S : sp_S} : ∀ {h n : Nat} {o : Option Nat} {e : Nat → Int32}, RegO S (h + 1) o n e → n < 4 ^ (h + 1) → exT S (h + 1) o n := by
  intro h
  induction h with
  | zero =>
    intro n o e g hn
    have hc := g.cnt
    rw [Nat.pow_zero, Nat.div_one] at hc
    refine ⟨?_, ?_, ?_, fun z => absurd rfl z⟩
    · rw [Nat.pow_zero, Nat.div_one]; exact hn
    · rw [Nat.pow_zero, Nat.div_one, hc]; split <;> omega
    · rw [Nat.pow_zero, Nat.div_one, hc]; split <;> omega
  | succ h ih =>
    intro n o e g hn
    have hc := g.cnt
    have hp := p4_pos (h + 1)
    obtain ⟨h1, h2⟩ := dm n _ hp
    have h3 : n / 4 ^ (h + 1) < 4 := Nat.div_lt_of_lt_mul (by rw [Nat.pow_succ] at hn; exact hn)
    have hk := g.kid (p := n / 4 ^ (h + 1)) (Nat.succ_ne_zero h)
    rw [show min (4 ^ (h + 1)) (n - n / 4 ^ (h + 1) * 4 ^ (h + 1)) = n % 4 ^ (h + 1) by omega] at hk
    have h4 := Nat.div_le_div_right (c := 4 ^ (h + 1)) (Nat.sub_le n 1)
    refine ⟨h3, ?_, ?_, fun _ => ih hk h2⟩
    · rw [hc]; split
      · next z => rw [z, Nat.zero_div]; exact Nat.le_refl _
      · obtain ⟨h5, h6⟩ := dm (n - 1) _ hp
        rcases Nat.lt_or_ge ((n - 1) / 4 ^ (h + 1) + 1) (n / 4 ^ (h + 1)) with y | y
        · have h7 := Nat.mul_le_mul_right (4 ^ (h + 1)) (show (n - 1) / 4 ^ (h + 1) + 1 + 1 ≤ n / 4 ^ (h + 1) from y)
          rw [Nat.succ_mul, Nat.succ_mul] at h7
          omega
        · exact y
    · rw [hc]; split <;> first | exact Nat.zero_le _ | omega
theorem sum_min (b n : Nat) : ∀ c, sumN c (fun i => min b (n - i * b)) = min (c * b) n := by
  intro c
  induction c with
  | zero => rw [Nat.zero_mul]; exact (Nat.zero_min _).symm
  | succ c ih => rw [sumN_succ, ih, Nat.succ_mul]; omega
theorem Reg.eU {S : sp_S} : ∀ {h k n : Nat} {e : Nat → Int32}, Reg S h k n e → eU S h k = n := by
  intro h
  induction h with
  | zero => intro k n e g; exact g.elim
  | succ h ih =>
    intro k n e g
    obtain ⟨g1, g2, ⟨g3, g3b, g3c⟩, g4, g5, g6⟩ := g
    cases hl : s_leaf S k with
    | true =>
      rw [eU_l hl, g3c, g4.mp hl, Nat.pow_zero, Nat.div_one]; omega
    | false =>
      rw [eU_i hl]
      have hz : h ≠ 0 := fun z => by rw [g4.mpr z] at hl; cases hl
      rw [sumN_cg (g := fun i => min (4 ^ h) (n - i * 4 ^ h)) (fun i hi => ih (g6 hz i hi)), sum_min, g3c]
      obtain ⟨h1, h2⟩ := dm (n - 1) (4 ^ h) (p4_pos h)
      rw [Nat.succ_mul]; omega
theorem Reg.cuT {S : sp_S} : ∀ {h k n len : Nat} {e : Nat → Int32}, Reg S h k n e → 1 ≤ len → len ≤ n → cuT S h k len := by
  intro h
  induction h with
  | zero => intro k n len e g _ _; exact g.elim
  | succ h ih =>
    intro k n len e g h1 h2
    obtain ⟨h3, h4⟩ := g.at (idx := len - 1) (by omega)
    exact ⟨h1, .inr ⟨h3, fun z => ih (g.2.2.2.2.2 z _ h3) (by omega) (by omega)⟩⟩

theorem upd_off {e : Nat → Int32} {p q m : Nat} {its : Int32} {j : Nat} (h : q = p + m) : upd e q its (p + j) = upd (fun j => e (p + j)) m its j := by
  by_cases z : j = m
  · rw [z, h]; exact pk_us.trans pk_us.symm
  · rw [pk_un (by omega), pk_un z]
theorem mkC_new {T : sp_S} {o : Option Nat} {pos : Nat} {its : Int32} {b : Bool} : s_sto (mkC T o pos its b) (s_nn T) = true ∧ s_leaf (mkC T o pos its b) (s_nn T) = b ∧ s_cnt (mkC T o pos its b) (s_nn T) = max (cntO T o) (pos + 1) ∧ s_ent (mkC T o pos its b) (s_nn T) = fun i => if i = pos then its else entO T o i := addN_new
theorem RegO.ent {S : sp_S} {n : Nat} {o : Option Nat} {e : Nat → Int32} (g : RegO S 1 o n e) {i : Nat} (hi : i < n) : entO S o i = e i := by
  cases o with
  | none => exact absurd (show n = 0 from g) (by omega)
  | some k => exact g.2.2.2.2.1 rfl i hi
theorem RegO.chd {S : sp_S} {h n p : Nat} (hz : h ≠ 0) {o : Option Nat} {e : Nat → Int32} (g : RegO S (h + 1) o n e) (hp : p < cntO S o) : Reg S h (entO S o p).toNatClampNeg (min (4 ^ h) (n - p * 4 ^ h)) (fun j => e (p * 4 ^ h + j)) := by
  cases o with
  | none => exact absurd hp (Nat.not_lt_zero _)
  | some k => exact g.2.2.2.2.2 hz p hp
theorem RegO.lt {S : sp_S} {h n : Nat} {o : Option Nat} {e : Nat → Int32} (g : RegO S (h + 1) o n e) : ∀ r, o = some r → r < s_nn S := g.hgt.lt
theorem Reg_cpy {S : sp_S} (hnn : s_nn S + 4 < 2 ^ 31) (its : Int32) : ∀ {h n idx : Nat} {o : Option Nat} {e : Nat → Int32}, h ≤ 3 → RegO S (h + 1) o n e → idx ≤ n → n ≤ 4 ^ (h + 1) → idx < 4 ^ (h + 1) → Reg (cpy S (h + 1) o idx its).2 (h + 1) (cpy S (h + 1) o idx its).1 (max n (idx + 1)) (upd e idx its) := by
  intro h
  induction h with
  | zero =>
    intro n idx o e _ g hi hn hx
    have hc := g.cnt
    rw [Nat.pow_zero, Nat.div_one] at hc
    rw [cpy_1]
    obtain ⟨e1, e2, e3, e4⟩ := mkC_new (T := S) (o := o) (pos := idx) (its := its) (b := true)
    have hc' : cntO S o = n := by rw [hc]; split <;> omega
    refine ⟨Nat.lt_succ_self _, e1, ⟨by omega, by rw [Nat.pow_zero] at *; omega, ?_⟩, ?_, fun _ i hi2 => ?_, fun z => absurd rfl z⟩
    · rw [e3, hc', Nat.pow_zero, Nat.div_one]; omega
    · rw [e2]; simp
    · rw [e4]
      show (if i = idx then its else entO S o i) = _
      by_cases z : i = idx
      · rw [if_pos z, z]; exact pk_us.symm
      · rw [if_neg z, pk_un z]; exact g.ent (by omega)
  | succ h ih =>
    intro n idx o e hh g hi hn hx
    have hz : h + 1 ≠ 0 := Nat.succ_ne_zero h
    have hc := g.cnt
    have hb := p4_pos (h + 1)
    have hcp := cpy_s (S := S) hz o idx its
    generalize hpp : idx / 4 ^ (h + 1) = pp at hcp
    generalize hmm : idx % 4 ^ (h + 1) = mm at hcp
    obtain ⟨d1, d2⟩ := dm idx (4 ^ (h + 1)) hb
    rw [hpp, hmm] at d1
    rw [hmm] at d2
    have hp4 : pp < 4 := by rw [← hpp]; exact Nat.div_lt_of_lt_mul (by rw [Nat.pow_succ] at hx; exact hx)
    have hkid := g.kid (p := pp) hz
    obtain ⟨x1, x2, x3⟩ := cpy_ex S its (h + 1) (kidO S o pp) mm
    have x4 := x3 hz
    have hih := ih (by omega) hkid (by omega) (Nat.min_le_left _ _) d2
    obtain ⟨k1, k2⟩ := x1.cntO g.lt
    rw [hcp]
    generalize hT : (cpy S (h + 1) (kidO S o pp) mm its).2 = T at *
    generalize hC : (cpy S (h + 1) (kidO S o pp) mm its).1 = C at *
    obtain ⟨e1, e2, e3, e4⟩ := mkC_new (T := T) (o := o) (pos := pp) (its := nI C) (b := false)
    have hE : exN T (mkC T o pp (nI C) false) := exN.addN
    have d3 : ∀ q, q < pp → q * 4 ^ (h + 1) + 4 ^ (h + 1) ≤ pp * 4 ^ (h + 1) := fun q hq => by
      have := Nat.mul_le_mul_right (4 ^ (h + 1)) hq
      rw [Nat.succ_mul] at this; exact this
    have hcnt : max (cntO S o) (pp + 1) = (max n (idx + 1) - 1) / 4 ^ (h + 1) + 1 := by
      rw [hc]
      by_cases y : idx < n
      · have h1 := Nat.div_le_div_right (c := 4 ^ (h + 1)) (show idx ≤ n - 1 by omega)
        rw [hpp] at h1
        rw [if_neg (by omega), show max n (idx + 1) = n by omega]; omega
      · have h1 := Nat.div_le_div_right (c := 4 ^ (h + 1)) (Nat.sub_le n 1)
        have h2 : n = idx := by omega
        rw [h2, hpp] at h1
        rw [show max n (idx + 1) - 1 = idx by omega, hpp, h2]
        split
        · exact Nat.max_eq_right (Nat.zero_le _)
        · omega
    refine ⟨Nat.lt_succ_self _, e1, ⟨by omega, by rw [Nat.pow_succ] at hn hx; omega, ?_⟩, ?_, fun z => absurd z hz, fun _ i hi2 => ?_⟩
    · rw [e3, k1]; exact hcnt
    · rw [e2]; simp
    · rw [e3, k1] at hi2
      have he : s_chd (mkC T o pp (nI C) false) (s_nn T) i = (if i = pp then nI C else entO S o i).toNatClampNeg := by
        unfold s_chd; rw [e4, k2]
      rw [he]
      by_cases z : i = pp
      · rw [if_pos z, nI_clamp (by omega), z]
        refine (hE.reg hih).cast ?_ (fun j _ => (upd_off d1.symm).symm)
        omega
      · rw [if_neg z]
        have hi3 : i < cntO S o := by
          rw [hc]
          rcases Nat.lt_or_ge i pp with y | y
          · have h1 := Nat.div_le_div_right (c := 4 ^ (h + 1)) (show idx - 1 ≤ n - 1 by omega)
            have h2 := d3 i y
            have h0 : n ≠ 0 := by omega
            rw [if_neg h0]
            have h4 : i ≤ (n - 1) / 4 ^ (h + 1) := by
              rw [Nat.le_div_iff_mul_le hb]; omega
            omega
          · omega
        refine (hE.reg (x1.reg (g.chd hz hi3))).cast ?_ (fun j hj => ?_)
        · rcases Nat.lt_or_ge i pp with y | y
          · have h2 := d3 i y; omega
          · have h5 : pp < i := by omega
            have h6 : pp * 4 ^ (h + 1) + 4 ^ (h + 1) ≤ i * 4 ^ (h + 1) := by
              have := Nat.mul_le_mul_right (4 ^ (h + 1)) h5
              rw [Nat.succ_mul] at this; exact this
            have h7 := g.cnt
            rw [h7] at hi3
            split at hi3
            · omega
            · obtain ⟨h8, h9⟩ := dm (n - 1) (4 ^ (h + 1)) hb
              have h10 := Nat.mul_le_mul_right (4 ^ (h + 1)) (show i ≤ (n - 1) / 4 ^ (h + 1) by omega)
              omega
        · refine (pk_un ?_).symm
          intro y
          rcases Nat.lt_or_ge i pp with y2 | y2
          · have h2 := d3 i y2; omega
          · have h6 : pp * 4 ^ (h + 1) + 4 ^ (h + 1) ≤ i * 4 ^ (h + 1) := by
              have := Nat.mul_le_mul_right (4 ^ (h + 1)) (show pp + 1 ≤ i by omega)
              rw [Nat.succ_mul] at this; exact this
            omega
