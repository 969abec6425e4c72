/-! floats: no NaN where small whole numbers are divided, the divisor other than zero -/
theorem fp_asm (f : FP.Core.Fmt) (s : Bool) (e t : Nat) (he : e < f.exps) (ht : t < f.tails) : FP.Core.assemble f s e t % (f.exps * f.tails) = e * f.tails + t := by
  show ((s.toNat * f.exps + e) * f.tails + t) % (f.exps * f.tails) = _
  have h1 : (s.toNat * f.exps + e) * f.tails + t = (e * f.tails + t) + f.exps * f.tails * s.toNat := by
    rw [Nat.add_mul, Nat.mul_assoc, Nat.mul_comm s.toNat]; omega
  rw [h1, Nat.add_mul_mod_self_left, Nat.mod_eq_of_lt]
  have := Nat.mul_le_mul_right f.tails (show e + 1 ≤ f.exps from he)
  rw [Nat.add_mul, Nat.one_mul] at this
  omega
theorem fp_bound (f : FP.Core.Fmt) (s : Bool) (c : Nat) (q : Int) (ht : 0 < f.tails) (h2 : c < 2 * f.tails) (hx : 2 ≤ f.exps) (hq : (f.qmax - f.qmin).toNat + 2 < f.exps) : FP.Core.encode f (FP.Core.bound f s c q) % (f.exps * f.tails) ≤ (f.exps - 1) * f.tails := by
  unfold FP.Core.bound
  split
  · next hle =>
    unfold FP.Core.encode
    dsimp only
    split
    · next hc =>
      rw [fp_asm f s 0 c (by omega) hc]
      have := Nat.mul_le_mul_right f.tails (show 1 ≤ f.exps - 1 by omega)
      omega
    · next hc =>
      have hE : (q - f.qmin).toNat + 1 + 1 ≤ f.exps - 1 := by omega
      rw [fp_asm f s _ _ (by omega) (by omega)]
      have := Nat.mul_le_mul_right f.tails hE
      rw [Nat.add_mul _ 1 f.tails, Nat.one_mul] at this
      omega
  · unfold FP.Core.encode
    dsimp only
    rw [fp_asm f s _ _ (by omega) ht]; omega
theorem fp_rr (f : FP.Core.Fmt) (s : Bool) (A B : Nat) (e : Int) (ht : 0 < f.tails) (hp : 2 ^ f.p = 2 * f.tails) (hx : 2 ≤ f.exps) (hq : (f.qmax - f.qmin).toNat + 2 < f.exps) : FP.Core.encode f (FP.Core.roundRatio f s A B e) % (f.exps * f.tails) ≤ (f.exps - 1) * f.tails := by
  unfold FP.Core.roundRatio
  split
  · unfold FP.Core.encode
    dsimp only
    rw [if_pos ht, fp_asm f s 0 0 (by omega) ht]; omega
  · unfold FP.Core.roundAt FP.Core.settle
    split
    · next h => rw [hp] at h; exact fp_bound f s _ _ ht h hx hq
    · exact fp_bound f s _ _ ht (by omega) hx hq
/-- what a small whole number is, as a datum -/
def fp_ok (d : FP.Core.Datum) (a : Nat) : Bool := match d with
  | .fin _ c _ => decide (a = 0) || decide (c ≠ 0)
  | _ => false
theorem fp_q (f : FP.Core.Fmt) {x y : FP.Core.Datum} {a b : Nat} (hx : fp_ok x a = true) (hy : fp_ok y b = true) (hb : b ≠ 0) : ∃ s A B e, FP.Core.quotient f x y = FP.Core.roundRatio f s A B e := by
  cases x with
  | nan => cases hx
  | inf s => cases hx
  | fin s c q =>
    cases y with
    | nan => cases hy
    | inf s => cases hy
    | fin t d r =>
      have hd : d ≠ 0 := by
        intro z; subst z
        have h1 : (decide (b = 0) || decide ((0 : Nat) ≠ 0)) = true := hy
        rw [decide_eq_false hb] at h1; cases h1
      exact ⟨_, _, _, _, if_neg hd⟩
theorem fp_i2d : ∀ a : Fin 1000, fp_ok (FP.Core.decode FP.Core.b64 (FP.Core.i2d (nI a.1)).toNat) a.1 = true := by decide +kernel
theorem fp_i2f : ∀ a : Fin 1000, fp_ok (FP.Core.decode FP.Core.b32 (FP.Core.i2f (nI a.1)).toNat) a.1 = true := by decide +kernel
theorem mm_ddivN {a b : Nat} (ha : a < 1000) (hb : b < 1000) (h0 : b ≠ 0) : vf_n64 (FP.Core.ddiv (FP.Core.i2d (nI a)) (FP.Core.i2d (nI b))) := by
  obtain ⟨s, A, B, e, h⟩ := fp_q FP.Core.b64 (fp_i2d ⟨a, ha⟩) (fp_i2d ⟨b, hb⟩) h0
  have h1 := fp_rr FP.Core.b64 s A B e (by decide) (by decide) (by decide) (by decide)
  rw [← h] at h1
  show UInt64.ofNat _ &&& 0x7fffffffffffffff ≤ 0x7ff0000000000000
  rw [UInt64.le_iff_toNat_le, UInt64.toNat_and]
  show (UInt64.ofNat (FP.Core.div FP.Core.b64 (FP.Core.i2d (nI a)).toNat (FP.Core.i2d (nI b)).toNat)).toNat &&& (2 ^ 63 - 1) ≤ 9218868437227405312
  rw [Nat.and_two_pow_sub_one_eq_mod, UInt64.toNat_ofNat', Nat.mod_mod_of_dvd _ (by decide)]
  exact h1
theorem mm_fdivN {a b : Nat} (ha : a < 1000) (hb : b < 1000) (h0 : b ≠ 0) : vf_n32 (FP.Core.fdiv (FP.Core.i2f (nI a)) (FP.Core.i2f (nI b))) := by
  obtain ⟨s, A, B, e, h⟩ := fp_q FP.Core.b32 (fp_i2f ⟨a, ha⟩) (fp_i2f ⟨b, hb⟩) h0
  have h1 := fp_rr FP.Core.b32 s A B e (by decide) (by decide) (by decide) (by decide)
  rw [← h] at h1
  show UInt32.ofNat _ &&& 0x7fffffff ≤ 0x7f800000
  rw [UInt32.le_iff_toNat_le, UInt32.toNat_and]
  show (UInt32.ofNat (FP.Core.div FP.Core.b32 (FP.Core.i2f (nI a)).toNat (FP.Core.i2f (nI b)).toNat)).toNat &&& (2 ^ 31 - 1) ≤ 2139095040
  rw [Nat.and_two_pow_sub_one_eq_mod, UInt32.toNat_ofNat', Nat.mod_mod_of_dvd _ (by decide)]
  exact h1
/-- what sharing answers; what garbagePart answers -/
def shV (s n : Nat) : UInt64 := if n = 0 then FP.dconst0 else FP.ddiv (FP.i2d (nI s)) (FP.i2d (nI n))
def gpV (s n : Nat) : UInt32 := if n = 0 then FP.fconst0 else FP.fdiv (FP.i2f (nI s)) (FP.i2f (nI n))
