/-! what holds of every store, first part: XI; statements executed -/
def XI (S : sp_S) : Prop := WF S ∧ RG S ∧ 1 ≤ s_nv S ∧ s_nn S + 3 ≤ 21 + 3 * s_nv S
theorem XI.wf {S : sp_S} (h : XI S) : WF S := h.1
theorem XI.rg {S : sp_S} (h : XI S) : RG S := h.2.1
theorem XI.n9 {S : sp_S} (h : XI S) : s_nn S + 4 ≤ 190 := by have := h.1.nv; have := h.2.2.2; omega
theorem XI.hg {S : sp_S} (h : XI S) : HG S := h.2.1.hg
theorem Reg_nd {S T : sp_S} (h1 : s_nn T = s_nn S) (h2 : ∀ k, (s_sto S k = true → s_sto T k = true) ∧ s_leaf T k = s_leaf S k ∧ s_cnt T k = s_cnt S k ∧ s_ent T k = s_ent S k) : ∀ {d k n : Nat} {e : Nat → Int32}, Reg S d k n e → Reg T d k n e := by
  intro d
  induction d with
  | zero => intro k n e g; exact g
  | succ d ih =>
    intro k n e g
    obtain ⟨g1, g2, g3, g4, g5, g6⟩ := g
    obtain ⟨e1, e2, e3, e4⟩ := h2 k
    refine ⟨by rw [h1]; exact g1, e1 g2, by rw [e3]; exact g3, by rw [e2]; exact g4, fun z i hi => by rw [e4]; exact g5 z i hi, fun z i hi => ?_⟩
    rw [e3] at hi
    rw [show s_chd T k i = s_chd S k i by unfold s_chd; rw [e4]]
    exact ih (g6 z i hi)
theorem RegO_nd {S T : sp_S} (h1 : s_nn T = s_nn S) (h2 : ∀ k, (s_sto S k = true → s_sto T k = true) ∧ s_leaf T k = s_leaf S k ∧ s_cnt T k = s_cnt S k ∧ s_ent T k = s_ent S k) {d n : Nat} {o : Option Nat} {e : Nat → Int32} (g : RegO S d o n e) : RegO T d o n e := by
  cases o with
  | none => exact g
  | some r => exact Reg_nd h1 h2 g
theorem RegO_cg {S : sp_S} {d n : Nat} {o : Option Nat} {e e' : Nat → Int32} (he : ∀ j, j < n → e j = e' j) (g : RegO S d o n e) : RegO S d o n e' := by
  cases o with
  | none => exact g
  | some r => exact Reg.congr he g
theorem exN.regO {S T : sp_S} (h : exN S T) {d n : Nat} {o : Option Nat} {e : Nat → Int32} (g : RegO S d o n e) : RegO T d o n e := by
  cases o with
  | none => exact g
  | some r => exact h.reg g
theorem RegO_lt {S : sp_S} {n : Nat} {o : Option Nat} {e : Nat → Int32} (g : RegO S (hf n) o n e) : ∀ r, o = some r → r < s_nn S := by
  intro r hr
  subst hr
  have g' : Reg S (hf n) r n e := g
  have h1 := Reg.one g'
  rw [hf_pos (by omega)] at g'
  exact g'.1
theorem RG_addV {S T : sp_S} {par root : Option Nat} {len before : Nat} {els els' : Nat → Int32} (hG : RG S) (hE : exN S T) (hO : RegO T (hf len) root len els') (he : ∀ j, j < len → els' j = els j) : RG (addV T par len root before els) := by
  intro v hv hl
  have hn : ∀ k, (s_sto T k = true → s_sto (addV T par len root before els) k = true) ∧ s_leaf (addV T par len root before els) k = s_leaf T k ∧ s_cnt (addV T par len root before els) k = s_cnt T k ∧ s_ent (addV T par len root before els) k = s_ent T k := fun k => ⟨fun z => z, rfl, rfl, rfl⟩
  by_cases z : v = s_nv T
  · subst z
    obtain ⟨e1, e2, e3, e4, e5, e6⟩ := addV_new (S := T) (par := par) (len := len) (root := root) (before := before) (els := els)
    unfold RgV
    rw [e1, e2, e6]
    exact RegO_cg he (RegO_nd addV_nn hn hO)
  · obtain ⟨e1, e2, e3, e4, e5, e6⟩ := addV_old (S := T) (par := par) (len := len) (root := root) (before := before) (els := els) z
    obtain ⟨f1, f2, f3, f4, f5, f6⟩ := hE.ver v
    unfold RgV
    rw [e1, e2, e6, f1, f2, f6]
    rw [e4, f4] at hl
    have hv2 : v < s_nv T + 1 := hv
    rw [hE.1] at hv2 z
    exact RegO_nd addV_nn hn (hE.regO (hG v (by omega) hl))
theorem XI_addV {S T : sp_S} {par root : Option Nat} {len before : Nat} {els els' : Nat → Int32} (h : XI S) (hE : exN S T) (hn : s_nn T ≤ s_nn S + 3) (hT : WF T) (hv : s_nv S < 40) (hl : len ≤ 64) (hp : ∀ q, par = some q → q < s_nv S) (hO : RegO T (hf len) root len els') (he : ∀ j, j < len → els' j = els j) : XI (addV T par len root before els) := by
  refine ⟨WF_addV hT (by rw [hE.1]; exact hv) hl (RegO_lt hO) (by rw [hE.1]; exact hp), RG_addV h.2.1 hE hO he, ?_, ?_⟩
  · rw [addV_nv]; omega
  · rw [addV_nv, addV_nn, hE.1]; have := h.2.2.2; omega
theorem XI_set {S : sp_S} {v idx : Nat} {its : Int32} (h : XI S) (hv : v < s_nv S) (hl : s_rel S v = false) (h4 : s_nv S < 40) (hi : idx < s_len S v) : XI (setOp S v idx its) := by
  have hl9 := h.1.len hv
  obtain ⟨h1, h2, h3, h5⟩ := setT_ex (its := its) h.1 (h.2.1 v hv hl) hi hl9 h.n9
  refine XI_addV h h1 h2 h3 h4 hl9 (fun q z => by cases z; exact hv) h5 (fun j hj => ?_)
  by_cases z : j = idx
  · subst z; exact pk_us.trans pk_us.symm
  · rw [pk_un z, pk_un z, pE_t rfl (by omega)]
theorem XI_app {S : sp_S} {v : Nat} {its : Int32} (h : XI S) (hv : v < s_nv S) (hl : s_rel S v = false) (h4 : s_nv S < 40) (hi : s_len S v < 64) : XI (appOp S v its) := by
  obtain ⟨h1, h2, h3, h5⟩ := appT_ex (its := its) h.1 (h.2.1 v hv hl) hi h.n9
  refine XI_addV (root := some (appT S v its).1) h h1 h2 h3 h4 (by omega) (fun q z => by cases z; exact hv) h5 (fun j hj => ?_)
  by_cases z : j = s_len S v
  · rw [z]; exact pk_us.trans pk_us.symm
  · rw [pk_un z, pk_un z, pE_t rfl (by omega)]
theorem XI_cut {S : sp_S} {v n : Nat} (h : XI S) (hv : v < s_nv S) (hl : s_rel S v = false) (h4 : s_nv S < 40) (hi : n ≤ s_len S v) : XI (cutOp S v n) := by
  have hl9 := h.1.len hv
  obtain ⟨h1, h2, h3, h5⟩ := cutT_ex h.1 (h.2.1 v hv hl) hi hl9 h.n9
  exact XI_addV h h1 h2 h3 h4 (by omega) (fun q z => by cases z; exact hv) h5 (fun j hj => by rw [pE_t rfl (by omega)])
theorem XI_setR {S : sp_S} {v : Nat} (h : XI S) : XI (setR S v) := by
  refine ⟨WF_setR h.1, fun w hw hl => ?_, h.2.2.1, h.2.2.2⟩
  obtain ⟨e1, e2, e3, e4, e5, e6⟩ := setR_acc S v w
  rw [e4] at hl
  have z : w ≠ v := fun z => by rw [if_pos z] at hl; cases hl
  rw [if_neg z] at hl
  unfold RgV
  rw [e1, e2, e6]
  exact RegO_nd (S := S) (T := setR S v) rfl (fun k => ⟨fun z => z, rfl, rfl, rfl⟩) (show RegO S (hf (s_len S w)) (s_root S w) (s_len S w) (s_els S w) from h.2.1 w hw hl)
theorem rchB_in {S : sp_S} {v k : Nat} (hl : s_rel S v = false) (hk : k ∈ tn S v) : ∀ {n : Nat}, v < n → rchB S n k = true := by
  intro n
  induction n with
  | zero => intro z; exact absurd z (Nat.not_lt_zero _)
  | succ n ih =>
    intro z
    show (rchB S n k || (s_live S n && (tn S n).contains k)) = true
    by_cases y : v = n
    · subst y
      rw [show s_live S v = true by unfold s_live; rw [hl]; rfl, List.contains_iff_mem.mpr hk, Bool.and_self, Bool.or_true]
    · rw [ih (by omega), Bool.true_or]
theorem Reg_sto {S T : sp_S} (h1 : s_nn T = s_nn S) (h2 : ∀ k, s_leaf T k = s_leaf S k ∧ s_cnt T k = s_cnt S k ∧ s_ent T k = s_ent S k) : ∀ {d k n : Nat} {e : Nat → Int32}, Reg S d k n e → (∀ j, j ∈ nds S d k → s_sto T j = true) → Reg T d k n e := by
  intro d
  induction d with
  | zero => intro k n e g _; exact g
  | succ d ih =>
    intro k n e g hs
    obtain ⟨g1, g2, g3, g4, g5, g6⟩ := g
    obtain ⟨e2, e3, e4⟩ := h2 k
    refine ⟨by rw [h1]; exact g1, hs k (List.mem_cons_self ..), by rw [e3]; exact g3, by rw [e2]; exact g4, fun z i hi => by rw [e4]; exact g5 z i hi, fun z i hi => ?_⟩
    rw [e3] at hi
    rw [show s_chd T k i = s_chd S k i by unfold s_chd; rw [e4]]
    refine ih (g6 z i hi) (fun j hj => hs j ?_)
    have hlf : s_leaf S k = false := by
      cases y : s_leaf S k with
      | false => rfl
      | true => exact absurd (g4.mp y) z
    rw [nds_inner hlf]
    exact List.mem_cons_of_mem _ (List.mem_flatMap.mpr ⟨i, List.mem_range.mpr hi, hj⟩)
theorem hf_le3 (n : Nat) : hf n ≤ 3 := by
  unfold hf; split; decide; split; decide; split <;> decide
theorem Reg_nsto {S : sp_S} : ∀ {d k n : Nat} {e : Nat → Int32}, Reg S d k n e → ∀ j, j ∈ nds S d k → s_sto S j = true := by
  intro d
  induction d with
  | zero => intro k n e g; exact g.elim
  | succ d ih =>
    intro k n e g j hj
    obtain ⟨g1, g2, g3, g4, g5, g6⟩ := g
    cases y : s_leaf S k with
    | true => rw [nds_leaf y, List.mem_singleton] at hj; rw [hj]; exact g2
    | false =>
      rw [nds_inner y] at hj
      rcases List.mem_cons.mp hj with z | z
      · rw [z]; exact g2
      · obtain ⟨i, hi, hj⟩ := List.mem_flatMap.mp z
        have hz : d ≠ 0 := fun q => by rw [g4.mpr q] at y; cases y
        exact ih (g6 hz i (List.mem_range.mp hi)) j hj
theorem XI_coll {S : sp_S} (h : XI S) : XI (coll S) := by
  refine ⟨h.1, fun w hw hl => ?_, h.2.2.1, h.2.2.2⟩
  have hv : w < s_nv S := hw
  have hl' : s_rel S w = false := hl
  have g : RegO S (hf (s_len S w)) (s_root S w) (s_len S w) (s_els S w) := h.2.1 w hv hl'
  show RegO (coll S) (hf (s_len S w)) (s_root S w) (s_len S w) (s_els S w)
  cases hr : s_root S w with
  | none => rw [hr] at g; exact g
  | some r =>
    rw [hr] at g
    refine Reg_sto (S := S) (T := coll S) rfl (fun k => ⟨rfl, rfl, rfl⟩) g (fun j hj => ?_)
    have g' : Reg S (hf (s_len S w)) r (s_len S w) (s_els S w) := g
    show (s_sto S j && rch S j) = true
    have hm : j ∈ tn S w := by unfold tn; rw [hr]; show j ∈ nds S 3 r; rw [nds_h g'.hgt (hf_le3 _)]; exact hj
    rw [Reg_nsto g' j hj, show rch S j = true from rchB_in hl' hm hv]; rfl
theorem XI_beg {n : Nat} {ev : Nat → Int32} (hn : n ≤ 64) : XI (begS n ev) := by
  obtain ⟨h1, h2, h3, h4, h5⟩ := begT_ok (ev := ev) hn
  obtain ⟨g1, g2⟩ := begT_reg (ev := ev) hn
  have e0 : RG (begT n ev).1 := fun v hv => absurd hv (by rw [h2]; exact Nat.not_lt_zero _)
  refine ⟨WF_addV h1 (by rw [h2]; decide) hn g2 (fun q z => by cases z), RG_addV e0 exN.rf g1 (fun j _ => rfl), ?_, ?_⟩
  · unfold begS; rw [addV_nv]; omega
  · unfold begS; rw [addV_nv, addV_nn, h2]; omega
/-- a version that is there and live -/
def lvN (S : sp_S) (v : Nat) : Bool := decide (v < s_nv S) && !s_rel S v
theorem lvN_t {S : sp_S} {v : Nat} (h : lvN S v = true) : v < s_nv S ∧ s_rel S v = false := by
  obtain ⟨h1, h2⟩ := and_tt h
  refine ⟨of_decide_eq_true h1, ?_⟩
  cases z : s_rel S v with
  | false => rfl
  | true => rw [z] at h2; cases h2
theorem isLv_N {S : sp_S} {v : Nat} (hv : v < 2 ^ 30) (hn : s_nv S ≤ 40) : isLv S (nI v) = lvN S v := by
  unfold isLv lvN inR
  rw [nI_toInt (by omega), nI_clamp (by omega)]
  congr 1
  exact decide_eq_decide.mpr (by omega)
/-- a statement executed, if its method would not throw -/
def ex1 (S : sp_S) (x : pS) : Option sp_S := match x.1 with
  | 0 => if lvN S x.2.1 = true ∧ x.2.2.1 < s_len S x.2.1 ∧ s_nv S < 40 then some (setOp S x.2.1 x.2.2.1 x.2.2.2) else none
  | 1 => if lvN S x.2.1 = true ∧ s_len S x.2.1 ≠ 64 ∧ s_nv S < 40 then some (appOp S x.2.1 x.2.2.2) else none
  | 2 => if lvN S x.2.1 = true ∧ x.2.2.1 ≤ s_len S x.2.1 ∧ s_nv S < 40 then some (cutOp S x.2.1 x.2.2.1) else none
  | 3 => if lvN S x.2.1 = true then some (setR S x.2.1) else none
  | _ => some (coll S)
def exL (g : Nat → pS) : Nat → Nat → sp_S → Nat × sp_S
  | 0, i, S => (i, S)
  | f + 1, i, S => match ex1 S (g i) with
    | none => (i, S)
    | some T => exL g f (i + 1) T
theorem XI_ex1 {S T : sp_S} {x : pS} (h : XI S) (he : ex1 S x = some T) : XI T := by
  obtain ⟨k, v, i, y⟩ := x
  unfold ex1 at he
  split at he
  · split at he
    · next z => cases he; exact XI_set h (lvN_t z.1).1 (lvN_t z.1).2 z.2.2 z.2.1
    · cases he
  · split at he
    · next z => cases he; have := h.1.len (lvN_t z.1).1; exact XI_app h (lvN_t z.1).1 (lvN_t z.1).2 z.2.2 (by have := z.2.1; omega)
    · cases he
  · split at he
    · next z => cases he; exact XI_cut h (lvN_t z.1).1 (lvN_t z.1).2 z.2.2 z.2.1
    · cases he
  · split at he
    · cases he; exact XI_setR h
    · cases he
  · cases he; exact XI_coll h
/-- bounds of a statement -/
def stB (x : pS) : Prop := x.1 ≤ 4 ∧ x.2.1 ≤ 39 ∧ x.2.2.1 ≤ 64 ∧ inV x.2.2.2 = true
theorem inV_nI {v : Nat} (h : v ≤ 999) : inV (nI v) = true ∧ inV (-nI v) = true := by
  have : ∀ v : Fin 1000, inV (nI v.1) = true ∧ inV (-nI v.1) = true := by decide +kernel
  exact this ⟨v, by omega⟩
theorem pVal_in {b : Nat → Int32} {n p q : Nat} {rm : Bool} {v : Int32} (h : pVal b n rm p = .ok (v, q)) : inV v = true := by
  unfold pVal at h
  split at h
  · split at h
    · split at h
      · next z => cases h; exact (inV_nI (pNum_le z).2.1).2
      · cases h
    · cases h
  · split at h
    · split at h
      · split at h
        · next z => cases h; exact (inV_nI (pNum_le z).2.1).1
        · cases h
      · cases h
    · cases h
theorem pArg_in {b : Nat → Int32} {n k p q : Nat} {x : pS} (hp : p ≤ n) (h : pArg b n k p = .ok (x, q)) : stB x ∧ p ≤ q ∧ q ≤ n := by
  unfold pArg at h
  split at h
  · split at h
    · cases h
    · next h1 =>
      split at h
      · cases h
      · next h2 =>
        split at h
        · cases h
        · next h3 =>
          cases h
          have a1 := pNum_gt hp h1
          have a2 := pNum_gt a1.2 h2
          have a3 := pVal_gt a2.2 h3
          have b1 := (pNum_le h1).1
          have b2 := (pNum_le h2).1
          exact ⟨⟨show 0 ≤ 4 by decide, b1, Nat.le_trans b2 (by decide), pVal_in h3⟩, by omega, a3.2⟩
  · split at h
    · cases h
    · next h1 =>
      split at h
      · cases h
      · next h3 =>
        cases h
        have a1 := pNum_gt hp h1
        have a3 := pVal_gt a1.2 h3
        exact ⟨⟨show 1 ≤ 4 by decide, (pNum_le h1).1, show 0 ≤ 64 by decide, pVal_in h3⟩, by omega, a3.2⟩
  · split at h
    · cases h
    · next h1 =>
      split at h
      · cases h
      · next h2 =>
        cases h
        have a1 := pNum_gt hp h1
        have a2 := pNum_gt a1.2 h2
        exact ⟨⟨show 2 ≤ 4 by decide, (pNum_le h1).1, (pNum_le h2).1, show inV 0 = true by decide⟩, by omega, a2.2⟩
  · split at h
    · cases h
    · next h1 =>
      cases h
      have a1 := pNum_gt hp h1
      exact ⟨⟨show 3 ≤ 4 by decide, (pNum_le h1).1, show 0 ≤ 64 by decide, show inV 0 = true by decide⟩, by omega, a1.2⟩
  · cases h
    exact ⟨⟨by decide, by decide, by decide, by decide⟩, Nat.le_refl _, hp⟩
theorem stK_k {b : Nat → Int32} {n p k : Nat} (h : stK b n p = some k) : tkK b n p = 1 := by
  unfold stK at h
  split at h
  · next z => exact isW_k z
  · split at h
    · next z => exact isW_k z
    · split at h
      · next z => exact isW_k z
      · split at h
        · next z => exact isW_k z
        · split at h
          · next z => exact isW_k z
          · cases h
theorem pStm_in {b : Nat → Int32} {n p c q : Nat} {x : pS} (hp : p ≤ n) (h : pStm b n p c = .ok (x, q)) : stB x ∧ p < q ∧ q ≤ n ∧ c < 30 := by
  unfold pStm at h
  split at h
  · cases h
  · next k hk =>
    split at h
    · next hc =>
      have t1 := tkE_gt' hp (stK_k hk) (by decide)
      have t2 := (tkE_le (b := b) hp).2
      split at h
      · cases h
      · next x2 q2 ha =>
        have := pArg_in t2 ha
        split at h
        · cases h
        · next q3 hs =>
          cases h
          unfold pSem at hs
          split at hs
          · next z =>
            cases hs
            have t3 := tkE_gt' this.2.2 z (by decide)
            exact ⟨this.1, by omega, (tkE_le this.2.2).2, hc⟩
          · cases hs
    · cases h
section PScs
variable {b : Nat → Int32} {n f p c q : Nat} {g : Nat → pS} {x : pS} {e : Nat × Nat}
theorem pSc_s (hf : 1 ≤ f) (hk : ¬ tkK b n p = 0) (hN : pStm b n p c = .ok (x, q)) : pSc b n (f - 1) q (c + 1) (fun j => if j = c then x else g j) = pSc b n f p c g := by
  obtain ⟨f, rfl⟩ : ∃ z, f = z + 1 := ⟨f - 1, by omega⟩
  symm; show (if tkK b n p = 0 then _ else _) = _
  rw [if_neg hk, hN]; rfl
theorem pSc_e (hf : 1 ≤ f) (hk : ¬ tkK b n p = 0) (hN : pStm b n p c = .error e) : pSc b n f p c g = .error e := by
  obtain ⟨f, rfl⟩ : ∃ z, f = z + 1 := ⟨f - 1, by omega⟩
  show (if tkK b n p = 0 then _ else _) = _
  rw [if_neg hk, hN]
theorem pSc_0 (hf : 1 ≤ f) (hk : tkK b n p = 0) : pSc b n f p c g = .ok (c, g) := by
  obtain ⟨f, rfl⟩ : ∃ z, f = z + 1 := ⟨f - 1, by omega⟩
  exact if_pos hk
end PScs
