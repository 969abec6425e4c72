/-! rows over nodes of either kind; stored nodes are closed; marks -/
/-- the children of stored nodes are stored -/
def STC (S : sp_S) : Prop := ∀ k, k < s_nn S → s_sto S k = true → s_leaf S k = false → ∀ i, i < s_cnt S k → s_sto S (s_chd S k i) = true
def kidR (nd : Nat → Nat) (S : sp_S) (k i : Nat) : Option Nat := if s_leaf S k = false ∧ i < s_cnt S k then some (nd (s_chd S k i)) else none
theorem kidR_L {nd : Nat → Nat} {S : sp_S} {k i : Nat} (h : s_leaf S k = true) : kidR nd S k i = none := if_neg (fun z => by rw [h] at z; cases z.1)
theorem kidR_I {nd : Nat → Nat} {S : sp_S} {k i : Nat} (h : s_leaf S k = false) (hi : i < 2 ^ 30) : kidR nd S k i = if inR (nI i) (s_cnt S k) = true then some (nd (s_chd S k (nI i).toNatClampNeg)) else none := by
  unfold kidR inR
  rw [nI_toInt (by omega), nI_clamp (by omega)]
  by_cases z : i < s_cnt S k
  · rw [if_pos ⟨h, z⟩, if_pos (decide_eq_true (by omega))]
  · rw [if_neg (fun y => z y.2), if_neg (fun y => z (by have := of_decide_eq_true y; omega))]
theorem STC.kid {G : mm_G} {Q : mm_H} {nd : Nat → Nat} {S : sp_S} (hC : STC S) (hW : WF S) (hD : NDS G Q nd S) {k : Nat} (hk : k < s_nn S) (hs : s_sto S k = true) (hl : s_leaf S k = false) {i : Nat} (hi : i < s_cnt S k) : s_chd S k i < s_nn S ∧ s_sto S (s_chd S k i) = true ∧ NOK G Q nd S (s_chd S k i) := by
  have h1 := (hW.ent hk hl hi).2
  have h2 := hC k hk hs hl i hi
  exact ⟨by omega, h2, hD _ (by omega) h2⟩
section MRM
variable {p : Program} {l : Launch} {e : Env} {R : Room} {s : State} {m : MethodId} {args : Array Value} {below : List Frame} {meth : Method} {c : Code} {H : Heap} {locs : List Loc} {cells slots : Nat} {Q : State → Prop}
variable {cc : ByteArray} {pc : Nat} {ls : Array Slot} {rest : List Value} {G : mm_G} {P W1 : mm_H} {nd : Nat → Nat} {S : sp_S} {k : Nat}
theorem mm_num (hx : p.tables.exec = Jvm.exec) (hb : c.code = cc) {own host : String} {index : Nat} (hts : ∀ w ∈ lw_all, w.before args s = true) (hown : s.vm.findClass own = some m.cls) (hKK : KK G P s) (hN : NOK G W1 nd S k) (hF : mm_le W1 (mm_h H)) (hlink : Cond.fieldLinkNest own index "VectorVersions$Node" "number" "I" host ∈ lw_tbl) (hdg : decode cc pc = .ok (.getfield index, 3))
    (kk : W p l e R s m args below meth c H locs cells slots Q (F0 m (pc + 3) ls (.int (nI k) :: rest))) : W p l e R s m args below meth c H locs cells slots Q (F0 m pc ls (.ref (nd k) :: rest)) := by
  obtain ⟨ci, lst, h1, h2⟩ := hN.ob
  rcases h1 with rfl | rfl
  · exact mm_getN (C := RX4) (T := TX4) (N := 2) (ci := 4) (v := .int (nI k)) hx hb hts in_X4 hown hKK (mm_ob.rb h2) hF rfl 0 (by decide) hlink (fun _ h9 => h9) rfl hdg kk
  · exact mm_getN (C := RX5) (T := TX5) (N := 2) (ci := 5) (v := .int (nI k)) hx hb hts in_X5 hown hKK (mm_ob.rb h2) hF rfl 0 (by decide) hlink (fun _ h9 => h9) rfl hdg kk
end MRM
/-- nodes below n: their children are marked with them -/
def CLm (S : sp_S) (n : Nat) (m : Nat → Bool) : Prop := ∀ k, k < n → m k = true → s_leaf S k = false → ∀ i, i < s_cnt S k → m (s_chd S k i) = true
theorem CLm_nds {S : sp_S} (hW : WF S) {m : Nat → Bool} : ∀ {d k : Nat}, Hgt S d k → CLm S (k + 1) m → m k = true → ∀ j, j ∈ nds S d k → m j = true := by
  intro d
  induction d with
  | zero => intro k g; exact g.elim
  | succ d ih =>
    intro k g hc hm j hj
    cases y : s_leaf S k with
    | true => rw [nds_leaf y, List.mem_singleton] at hj; rw [hj]; exact hm
    | false =>
      rw [nds_inner y] at hj
      rcases List.mem_cons.mp hj with z | z
      · rw [z]; exact hm
      · obtain ⟨i, hi, hj⟩ := List.mem_flatMap.mp z
        have hi' := List.mem_range.mp hi
        have hlt := (hW.ent g.1 y hi').2
        exact ih (g.chd y hi') (fun k2 h2 => hc k2 (by omega)) (hc k (by omega) hm y i hi') j hj
theorem nds_le {S : sp_S} (hW : WF S) : ∀ {d k : Nat}, Hgt S d k → ∀ j, j ∈ nds S d k → j ≤ k := by
  intro d
  induction d with
  | zero => intro k g; exact g.elim
  | succ d ih =>
    intro k g j hj
    cases y : s_leaf S k with
    | true => rw [nds_leaf y, List.mem_singleton] at hj; omega
    | false =>
      rw [nds_inner y] at hj
      rcases List.mem_cons.mp hj with z | z
      · omega
      · obtain ⟨i, hi, hj⟩ := List.mem_flatMap.mp z
        have hi' := List.mem_range.mp hi
        have hlt := (hW.ent g.1 y hi').2
        have := ih (g.chd y hi') j hj
        omega
theorem nds_kids {S : sp_S} : ∀ {d k : Nat}, Hgt S d k → ∀ j, j ∈ nds S d k → s_leaf S j = false → ∀ i, i < s_cnt S j → s_chd S j i ∈ nds S d k := by
  intro d
  induction d with
  | zero => intro k g; exact g.elim
  | succ d ih =>
    intro k g j hj hl i hi
    cases y : s_leaf S k with
    | true => rw [nds_leaf y, List.mem_singleton] at hj; rw [hj] at hl; rw [hl] at y; cases y
    | false =>
      rw [nds_inner y] at hj ⊢
      rcases List.mem_cons.mp hj with z | z
      · subst z
        refine List.mem_cons_of_mem _ (List.mem_flatMap.mpr ⟨i, List.mem_range.mpr hi, ?_⟩)
        have g2 := g.chd y hi
        cases d with
        | zero => exact g2.elim
        | succ d => exact List.mem_cons_self ..
      · obtain ⟨i2, hi2, hj2⟩ := List.mem_flatMap.mp z
        exact List.mem_cons_of_mem _ (List.mem_flatMap.mpr ⟨i2, hi2, ih (g.chd y (List.mem_range.mp hi2)) j hj2 hl i hi⟩)
/-- marks after a node was reached -/
def mkU (S : sp_S) (d k : Nat) (m : Nat → Bool) : Nat → Bool := fun j => m j || (nds S d k).contains j
theorem mkU_CL {S : sp_S} (hW : WF S) {d k : Nat} (g : Hgt S d k) {m : Nat → Bool} {n : Nat} (h : CLm S n m) : CLm S n (mkU S d k m) := by
  intro j hj hm hl i hi
  unfold mkU at hm ⊢
  rw [Bool.or_eq_true] at hm ⊢
  rcases hm with z | z
  · exact .inl (h j hj z hl i hi)
  · exact .inr (List.contains_iff_mem.mpr (nds_kids g j (List.contains_iff_mem.mp z) hl i hi))
