/-! Strings: rows -/
section MRT
variable {p : Program} {l : Launch} {e : Env} {R : Room} {s : State} {m : MethodId} {args : Array Value} {below : List Frame} {meth : Method} {c : Code} {H : Heap} {locs : List Loc} {cells slots : Nat} {Q : State → Prop}
variable {cc : ByteArray} {pc : Nat} {ls : Array Slot} {rest : List Value} {G : mm_G} {P F : mm_H} {a : Nat}
theorem mm_Tlen (hx : p.tables.exec = Jvm.exec) (hb : c.code = cc) {ty : FieldType} {t N : Nat} {f : Nat → Value} (hT : mm_T ty t N f s F) (hF : mm_le F (mm_h H)) (hdg : decode cc pc = .ok (.arraylength, 1))
    (kk : W p l e R s m args below meth c H locs cells slots Q (F0 m (pc + 1) ls (.int (nI N) :: rest))) : W p l e R s m args below meth c H locs cells slots Q (F0 m pc ls (.ref t :: rest)) := by
  obtain ⟨cell, h1, h2, h3, h4, h5, h6⟩ := hT
  exact W.alen hx hb (hF.at h1) h2 h5 rfl rfl hdg kk
theorem mm_Tbald (hx : p.tables.exec = Jvm.exec) (hb : c.code = cc) {t N k : Nat} {f : Nat → Int32} (hT : mm_T .byte t N (fun j => .int (f j)) s F) (hF : mm_le F (mm_h H)) (hk : k < N) (hn : N < 2 ^ 31) (hdg : decode cc pc = .ok (.baload, 1))
    (kk : W p l e R s m args below meth c H locs cells slots Q (F0 m (pc + 1) ls (.int (f k) :: rest))) : W p l e R s m args below meth c H locs cells slots Q (F0 m pc ls (.int (nI k) :: .ref t :: rest)) := by
  obtain ⟨cell, h1, h2, h3, h4, h5, h6⟩ := hT
  have hc := nI_clamp (n := k) (by omega)
  refine W.bald (v := .int (f k)) hx hb (hF.at h1) h2 h3 ?_ ?_ rfl rfl hdg kk
  · intro z
    have := nI_in (c := k) (N := k + 1) (by omega) (by omega)
    rcases z with z | z
    · exact this (.inl z)
    · rw [hc] at z; omega
  · rw [hc]; exact h6 k hk
theorem mm_ldcS (hx : p.tables.exec = Jvm.exec) (hb : c.code = cc) {own tx : String} {index q : Nat} (hown : s.vm.findClass own = some m.cls) (hZ : vk_R own index tx q s) (hdg : decode cc pc = .ok (.ldc index, 2))
    (k : W p l e R s m args below meth c H locs cells slots Q (F0 m (pc + 2) ls (.ref q :: rest))) : W p l e R s m args below meth c H locs cells slots Q (F0 m pc ls rest) := va_ldcS hx hb hown hZ hdg k
theorem mm_ldcW (hx : p.tables.exec = Jvm.exec) (hb : c.code = cc) {own tx : String} {index q : Nat} (hown : s.vm.findClass own = some m.cls) (hZ : vk_R own index tx q s) (hdg : decode cc pc = .ok (.ldc_w index, 3))
    (k : W p l e R s m args below meth c H locs cells slots Q (F0 m (pc + 3) ls (.ref q :: rest))) : W p l e R s m args below meth c H locs cells slots Q (F0 m pc ls rest) := by
  intro T hT X
  obtain ⟨t, a1, b1⟩ := k T hT X
  exact ⟨t, X.ldcStringW hx hown (text := tx) (a := q) hZ.1 hZ.2 (g := F0 m pc ls rest) rfl (by rw [hb]; exact hdg) t a1, b1⟩
theorem mm_ia.T {t n : Nat} {f : Nat → Int32} {ty : FieldType} (h : mm_ia G P a t n f) (hKK : KK G F s) (ht : (mm_ty G)[t]? = some (G.2.1 t, ty)) : mm_T ty a n (fun j => .int (f j)) s P :=
  ⟨_, h, (hKK.K.2 t _ ht).1 n _, mm_nv, by rw [arrV_size]; first | done | exact Nat.le_refl _, by rw [arrV_size]; first | done | rfl, fun j hj => arrV_read _ _ hj⟩
end MRT
theorem mm_sb_ok : ∀ i, i < 15 → (mm_sb.getD i []).length < 128 ∧ ∀ j, j < (mm_sb.getD i []).length → (mm_sb.getD i []).getD j 0 < 128 := by decide +kernel
/-- the bytes of a String, constant or made; a String of n signs t -/
def mm_ba (G : mm_G) (H : Heap) (v n : Nat) (t : Nat → Nat) : Prop := (∃ i, i < 15 ∧ v = G.2.2 (500 + i) ∧ n = (mm_sb.getD i []).length ∧ t = fun j => (mm_sb.getD i []).getD j 0) ∨ (mm_ia G (mm_h H) v 1 n (fun j => nI (t j)) ∧ n < 128 ∧ ∀ j, j < n → t j < 128)
def mm_bs (G : mm_G) (H : Heap) (a n : Nat) (t : Nat → Nat) : Prop := (∃ i, i < 15 ∧ a = G.2.2 (400 + i) ∧ n = (mm_sb.getD i []).length ∧ t = fun j => (mm_sb.getD i []).getD j 0) ∨ ∃ (v : Nat) (h z : Int32), mm_rb G (mm_h H) a 19 [.ref v, .int 0, .int h, .int z] ∧ mm_ia G (mm_h H) v 1 n (fun j => nI (t j)) ∧ n < 128 ∧ ∀ j, j < n → t j < 128
theorem mm_ba.at {G : mm_G} {P : mm_H} {H : Heap} {s : State} {v n : Nat} {t : Nat → Nat} (h : mm_ba G H v n t) (hKK : KK G P s) (hF : mm_le P (mm_h H)) : mm_T .byte v n (fun j => .int (nI (t j))) s (mm_h H) ∧ n < 128 ∧ ∀ j, j < n → t j < 128 := by
  rcases h with ⟨i, hi, rfl, rfl, rfl⟩ | ⟨h2, h3⟩
  · obtain ⟨h, z, r, h1, h2, h3, h4⟩ := hKK.S i hi
    exact ⟨h3.2.mono hF, mm_sb_ok i hi⟩
  · exact ⟨h2.T hKK rfl, h3⟩
theorem mm_bs.at {G : mm_G} {P : mm_H} {H : Heap} {s : State} {a n : Nat} {t : Nat → Nat} (h : mm_bs G H a n t) (hKK : KK G P s) (hF : mm_le P (mm_h H)) : ∃ (v : Nat) (h z : Int32), mm_rb G (mm_h H) a 19 [.ref v, .int 0, .int h, .int z] ∧ mm_ba G H v n t := by
  rcases h with ⟨i, hi, rfl, rfl, rfl⟩ | ⟨v, h, z, h1, h2, h3⟩
  · obtain ⟨h, z, r, h1, h2, h3, h4⟩ := hKK.S i hi
    exact ⟨_, h, z, (h3.1).mono hF, .inl ⟨i, hi, rfl, rfl, rfl⟩⟩
  · exact ⟨v, h, z, h1, .inr ⟨h2, h3⟩⟩
theorem mm_bs.K {G : mm_G} {H : Heap} {i : Nat} (hi : i < 15) {w : List Nat} (hw : mm_sb.getD i [] = w) : mm_bs G H (G.2.2 (400 + i)) w.length (fun j => w.getD j 0) := by
  subst hw; exact .inl ⟨i, hi, rfl, rfl, rfl⟩
theorem KK.str {G : mm_G} {P : mm_H} {s : State} (hKK : KK G P s) (i : Nat) (hi : i < 15) {r : String × Nat × String} (hr : mm_sl[i]? = some r) : vk_R r.1 r.2.1 r.2.2 (G.2.2 (400 + i)) s := by
  obtain ⟨h, z, r', h1, h2, h3, h4⟩ := hKK.S i hi
  cases hr.symm.trans h1; exact h2
theorem mm_shr0 (n : Nat) : nI n >>> (nI 0 &&& 31) = nI n := by
  rw [show nI 0 &&& 31 = 0 from rfl]; exact Int32.shiftRight_zero
theorem mm_chr {t : Nat} (h : t < 128) : (((nI t) &&& nI 255).toUInt32 % 65536).toInt32 = nI t := by
  have : ∀ t : Fin 128, (((nI t.1) &&& nI 255).toUInt32 % 65536).toInt32 = nI t.1 := by decide +kernel
  exact this ⟨t, h⟩
theorem mm_nc {t : Nat} (h : t < 128) : narrow .char (.int (nI t)) = .int (nI t) := by
  have : ∀ t : Fin 128, narrow .char (.int (nI t.1)) = .int (nI t.1) := by decide +kernel
  exact this ⟨t, h⟩
theorem mm_zx.o {C n d : String} {U : State} {P : mm_H} (h : mm_zx C n d U P) : ∃ o : Option Nat, mm_z C n d (va_rf o) U P := by
  rcases h.1 with z | ⟨t, z⟩
  · exact ⟨none, z⟩
  · exact ⟨some t, z⟩
