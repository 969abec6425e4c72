/-! lists: removing, inserting; Integers -/
theorem alF_rem {n i : Nat} {es : Nat → Nat} (hi : i + 1 < n) : updO (va_cpy (alF n es) (alF n es) (i + 1) i (n - 1 - i)) (n - 1) none = alF (n - 1) (fun j => if j < i then es j else es (j + 1)) := by
  funext j; unfold updO va_cpy alF
  by_cases h : j = n - 1
  · rw [if_pos h, if_neg (by omega)]
  · rw [if_neg h]
    by_cases h1 : i ≤ j ∧ j < i + (n - 1 - i)
    · rw [if_pos h1, if_pos (by omega), if_pos (by omega)]; refine congrArg some ?_; show _ = if j < i then es j else es (j + 1); rw [if_neg (by omega)]; congr 1; omega
    · rw [if_neg h1]
      by_cases h2 : j < n
      · rw [if_pos h2, if_pos (by omega)]; refine congrArg some ?_; show _ = if j < i then es j else es (j + 1); rw [if_pos (by omega)]
      · rw [if_neg h2, if_neg (by omega)]
theorem alF_rem0 {n i : Nat} {es : Nat → Nat} (hi : i + 1 = n) : updO (alF n es) (n - 1) none = alF (n - 1) (fun j => if j < i then es j else es (j + 1)) := by
  funext j; unfold updO alF
  by_cases h : j = n - 1
  · rw [if_pos h, if_neg (by omega)]
  · rw [if_neg h]
    by_cases h2 : j < n
    · rw [if_pos h2, if_pos (by omega)]; refine congrArg some ?_; show _ = if j < i then es j else es (j + 1); rw [if_pos (by omega)]
    · rw [if_neg h2, if_neg (by omega)]
theorem alF_ins {n i v : Nat} {es : Nat → Nat} (hi : i ≤ n) : updO (va_cpy (alF n es) (alF n es) i (i + 1) (n - i)) i (some v) = alF (n + 1) (fun j => if j < i then es j else if j = i then v else es (j - 1)) := by
  funext j; unfold updO va_cpy alF
  by_cases h : j = i
  · rw [if_pos h, if_pos (by omega)]; refine congrArg some ?_; show _ = if j < i then es j else if j = i then v else es (j - 1); rw [if_neg (by omega), if_pos h]
  · rw [if_neg h]
    by_cases h1 : i + 1 ≤ j ∧ j < i + 1 + (n - i)
    · rw [if_pos h1, if_pos (by omega), if_pos (by omega)]; refine congrArg some ?_; show _ = if j < i then es j else if j = i then v else es (j - 1); rw [if_neg (by omega), if_neg h]; congr 1; omega
    · rw [if_neg h1]
      by_cases h2 : j < n
      · rw [if_pos h2, if_pos (by omega)]; refine congrArg some ?_; show _ = if j < i then es j else if j = i then v else es (j - 1); rw [if_pos (by omega)]
      · rw [if_neg h2, if_neg (by omega)]
/-- an Integer -/
def mm_in (G : mm_G) (W : mm_H) (a : Nat) (v : Int32) : Prop := mm_rb G W a 20 [.int v]
theorem mm_in.el {G : mm_G} {W : mm_H} {a : Nat} {v : Int32} (h : mm_in G W a v) : mm_el G W a := ⟨20, _, h, by simp⟩
section MRI
variable {p : Program} {l : Launch} {e : Env} {R : Room} {s : State} {m : MethodId} {args : Array Value} {below : List Frame} {meth : Method} {c : Code} {H : Heap} {locs : List Loc} {cells slots : Nat} {Q : State → Prop}
variable {cc : ByteArray} {pc : Nat} {ls : Array Slot} {rest : List Value} {F : mm_H}
theorem mm_Taald (hx : p.tables.exec = Jvm.exec) (hb : c.code = cc) {C : String} {t N k : Nat} {f : Nat → Option Nat} (hT : mm_T (.object C) t N (fun j => va_rf (f j)) s F) (hF : mm_le F (mm_h H)) (hk : k < N) (hn : N < 2 ^ 31) (hdg : decode cc pc = .ok (.aaload, 1))
    (kk : W p l e R s m args below meth c H locs cells slots Q (F0 m (pc + 1) ls (va_rf (f k) :: rest))) : W p l e R s m args below meth c H locs cells slots Q (F0 m pc ls (.int (nI k) :: .ref t :: rest)) := by
  obtain ⟨cell, h1, h2, h3, h4, h5, h6⟩ := hT
  have hc := nI_clamp (n := k) (by omega)
  refine W.aald (v := va_rf (f k)) (ty := .object C) hx hb (hF.at h1) h2 rfl h3 ?_ ?_ rfl rfl hdg kk
  · intro z
    have := nI_in (c := k) (N := k + 1) (by omega) (by omega)
    rcases z with z | z
    · exact this (.inl z)
    · rw [hc] at z; omega
  · rw [hc]; exact h6 k hk
end MRI
theorem in_128 {v : Int32} (h1 : ¬ v < -128) (h2 : ¬ nI 127 < v) : ∃ k : Nat, k < 256 ∧ v + nI 128 = nI k ∧ vb_c k = v := by
  have a1 : (-128 : Int) ≤ v.toInt := by have := Int32.le_iff_toInt_le.mp (Int32.not_lt.mp h1); simpa using this
  have a2 : v.toInt ≤ 127 := by have := Int32.le_iff_toInt_le.mp (Int32.not_lt.mp h2); rw [nI_toInt (by decide)] at this; exact this
  have e : v + nI 128 = nI (v.toInt + 128).toNat := by
    apply Int32.toInt_inj.mp
    rw [nI_toInt (by omega), Int32.toInt_add, nI_toInt (by decide)]
    have : (v.toInt + ((128 : Nat) : Int)).bmod (2 ^ 32) = v.toInt + 128 := Int.bmod_eq_of_le (by omega) (by omega)
    rw [this]; omega
  refine ⟨(v.toInt + 128).toNat, by omega, e, ?_⟩
  show nI (v.toInt + 128).toNat - 128 = v
  rw [← e]; exact Int32.add_sub_cancel v 128
/-- how two ints compare -/
def cmpI (a b : Int32) : Int32 := if a < b then -1 else if a = b then 0 else 1
