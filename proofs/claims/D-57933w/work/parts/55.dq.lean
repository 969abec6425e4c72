/-! ArrayDeques: an ArrayDeque a with its array arr of cap places, from hd on n elements es; none of them ever grows -/
def pl (hd cap i : Nat) : Nat := if hd + i < cap then hd + i else hd + i - cap
def inc9 (i m : Nat) : Nat := if i + 1 < m then i + 1 else 0
def dec9 (i m : Nat) : Nat := if i = 0 then m - 1 else i - 1
theorem pl_lt {hd cap i : Nat} (h : hd < cap) (k : i ≤ cap) : pl hd cap i < cap := by unfold pl; split <;> omega
theorem pl_inj {hd cap i j : Nat} (h : hd < cap) (hi : i < cap) (hj : j < cap) (e : pl hd cap i = pl hd cap j) : i = j := by unfold pl at e; split at e <;> split at e <;> omega
theorem pl_0 {hd cap : Nat} (h : hd < cap) : pl hd cap 0 = hd := by unfold pl; rw [if_pos (by omega)]; rfl
theorem pl_inc {hd cap i : Nat} (h : hd < cap) (k : i + 1 < cap) : inc9 (pl hd cap i) cap = pl hd cap (i + 1) := by unfold inc9 pl; (repeat' split) <;> omega
theorem pl_dec {hd cap i : Nat} (h : hd < cap) (k : i < cap) (h1 : 1 ≤ i) : dec9 (pl hd cap i) cap = pl hd cap (i - 1) := by unfold dec9 pl; (repeat' split) <;> omega
theorem pl_hd {hd cap i : Nat} (h : hd < cap) (k : i + 1 < cap) : pl (inc9 hd cap) cap i = pl hd cap (i + 1) := by unfold inc9 pl; (repeat' split) <;> omega
def DQ (G : mm_G) (W : mm_H) (a arr cap hd n : Nat) (es : Nat → Nat) : Prop := mm_ob G W a 16 [.ref arr, .int (nI hd), .int (nI (pl hd cap n))] ∧ (hd < cap ∧ n < cap ∧ cap ≤ 20) ∧ a ≠ arr ∧ ∃ f, mm_qa G W arr 4 cap f ∧ ∀ i, i < n → f (pl hd cap i) = some (es i)
theorem DQ.mono {G : mm_G} {W W2 : mm_H} {a arr cap hd n : Nat} {es : Nat → Nat} (h : DQ G W a arr cap hd n es) (k : mm_le W W2) : DQ G W2 a arr cap hd n es := by
  obtain ⟨h1, h2, h3, f, h4, h5⟩ := h
  exact ⟨h1.mono k, h2, h3, f, h4.mono k, h5⟩
theorem DQ.kept {G : mm_G} {H H1 : Heap} {a arr cap hd n : Nat} {es : Nat → Nat} (h : DQ G (mm_h H) a arr cap hd n es) (e1 : H1[a]? = H[a]?) (e2 : H1[arr]? = H[arr]?) : DQ G (mm_h H1) a arr cap hd n es := by
  obtain ⟨h1, h2, h3, f, h4, h5⟩ := h
  exact ⟨h1.kept e1, h2, h3, f, h4.kept e2, h5⟩
theorem sub_neg {t h : Nat} (h1 : t < h) (h2 : h < 1000) : nI t - nI h < 0 := by
  rw [Int32.lt_iff_toInt_lt, Int32.toInt_sub, nI_toInt (by omega), nI_toInt (by omega)]
  have : ((t : Int) - (h : Int)).bmod (2 ^ 32) = (t : Int) - h := Int.bmod_eq_of_le (by omega) (by omega)
  rw [this]; show (t : Int) - h < 0; omega
theorem sub_add {t h v : Nat} (h1 : t < h) (h2 : h ≤ v) : nI t - nI h + nI v = nI (t + v - h) := by
  rw [Int32.sub_eq_add_neg, Int32.add_assoc, Int32.add_comm (-nI h), ← Int32.add_assoc, ← Int32.sub_eq_add_neg, nI_add, pk_sub (by omega)]
theorem pl_sub {hd cap n : Nat} (h : hd < cap) (k : n < cap) : (if hd ≤ pl hd cap n then pl hd cap n - hd else pl hd cap n + cap - hd) = n := by unfold pl; (repeat' split) <;> omega
