/-! paths: where they are to be found, and what their copies keep -/
theorem mk_TR {F F1 : Nat → Nat → Int32} {S : sp_S} {b : Bool} {c : Nat} {e : Nat → Int32} (hR : TR (F 0) S) (hW : WF S) (hc : c ≤ 4) (h0 : ∀ j, (j < 2810 + 7 * s_nn S ∨ 2810 + 7 * s_nn S + 7 ≤ j) → F1 0 j = F 0 j) (hl : F1 0 (2810 + 7 * s_nn S) = mm_b b) (hcn : F1 0 (2810 + 7 * s_nn S + 1) = nI c) (he : ∀ i, i < c → F1 0 (2810 + 7 * s_nn S + 2 + i) = e i) : TR (tw_u (tw_u F1 0 (2810 + 7 * s_nn S + 6) (nI 1)) 0 1 (nI (s_nn S + 1)) 0) (addN S b c e) := by
  have k : ∀ j, j ≠ 1 → j ≠ 2810 + 7 * s_nn S + 6 → tw_u (tw_u F1 0 (2810 + 7 * s_nn S + 6) (nI 1)) 0 1 (nI (s_nn S + 1)) 0 j = F1 0 j := fun j h1 h2 => by rw [tw_us, pk_un h1, tw_us, pk_un h2]
  refine TR_addN hR hW hc (fun j h1 h2 => ?_) ?_ ?_ ?_ (fun i hi => ?_) ?_
  · rw [k j h1 (by omega)]; exact h0 j h2
  · rw [tw_us]; exact pk_us
  · rw [k _ (by omega) (by omega)]; exact hl
  · rw [k _ (by omega) (by omega)]; exact hcn
  · rw [k _ (by omega) (by omega)]; exact he i hi
  · rw [tw_us, pk_un (by omega), tw_us]; exact pk_us
theorem rem_e {F2 : Nat → Nat → Int32} {pos n i : Nat} {its : Int32} {e : Nat → Int32} (h1 : ∀ i, i < n → F2 7 i = e i) (hi : i = pos ∨ i < n) : tw_u F2 7 pos its 7 i = if i = pos then its else e i := by
  rw [tw_us]
  by_cases z : i = pos
  · rw [if_pos z, z]; exact pk_us
  · rw [if_neg z, pk_un z]; exact h1 i (by omega)
/-- T has all that S has, and more nodes -/
def exN (S T : sp_S) : Prop := s_nv T = s_nv S ∧ T.2.2.1 = S.2.2.1 ∧ s_nn S ≤ s_nn T ∧ ∀ k, k < s_nn S → T.2.2.2 k = S.2.2.2 k
theorem exN.rf {S : sp_S} : exN S S := ⟨rfl, rfl, Nat.le_refl _, fun _ _ => rfl⟩
theorem exN.tr {S T U : sp_S} (h : exN S T) (g : exN T U) : exN S U := ⟨g.1.trans h.1, g.2.1.trans h.2.1, Nat.le_trans h.2.2.1 g.2.2.1, fun k hk => (g.2.2.2 k (Nat.lt_of_lt_of_le hk h.2.2.1)).trans (h.2.2.2 k hk)⟩
theorem exN.addN {S : sp_S} {b : Bool} {c : Nat} {e : Nat → Int32} : exN S (addN S b c e) := ⟨rfl, rfl, Nat.le_succ _, fun _ hk => if_neg (Nat.ne_of_lt hk)⟩
theorem exN.node {S T : sp_S} (h : exN S T) {k : Nat} (hk : k < s_nn S) : s_sto T k = s_sto S k ∧ s_leaf T k = s_leaf S k ∧ s_cnt T k = s_cnt S k ∧ s_ent T k = s_ent S k := by
  unfold s_sto s_leaf s_cnt s_ent
  rw [h.2.2.2 k hk]
  exact ⟨rfl, rfl, rfl, rfl⟩
theorem exN.ver {S T : sp_S} (h : exN S T) (v : Nat) : s_len T v = s_len S v ∧ s_root T v = s_root S v ∧ s_par T v = s_par S v ∧ s_rel T v = s_rel S v ∧ s_cre T v = s_cre S v ∧ s_els T v = s_els S v := by
  unfold s_len s_root s_par s_rel s_cre s_els
  rw [h.2.1]
  exact ⟨rfl, rfl, rfl, rfl, rfl, rfl⟩
theorem exN.cntO {S T : sp_S} (h : exN S T) {o : Option Nat} (ho : ∀ r, o = some r → r < s_nn S) : cntO T o = cntO S o ∧ entO T o = entO S o := by
  cases o with
  | none => exact ⟨rfl, rfl⟩
  | some r =>
    obtain ⟨-, -, h3, h4⟩ := h.node (ho r rfl)
    refine ⟨h3, funext (fun i => ?_)⟩
    show s_ent T r i = s_ent S r i
    rw [h4]
theorem exN.chd {S T : sp_S} (h : exN S T) {k : Nat} (hk : k < s_nn S) (i : Nat) : s_chd T k i = s_chd S k i := by
  unfold s_chd; rw [(h.node hk).2.2.2]
theorem exN.hgt {S T : sp_S} (h : exN S T) : ∀ {d k : Nat}, Hgt S d k → Hgt T d k := by
  intro d
  induction d with
  | zero => intro k g; exact g
  | succ d ih =>
    intro k g
    obtain ⟨-, e2, e3, -⟩ := h.node g.1
    refine ⟨Nat.lt_of_lt_of_le g.1 h.2.2.1, by rw [e2]; exact g.2.1, fun z i hi => ?_⟩
    rw [e3] at hi
    rw [h.chd g.1]
    exact ih (g.2.2 z i hi)
theorem exN.eu {S T : sp_S} (h : exN S T) {d k : Nat} (g : Hgt S d k) : eU T d k = eU S d k := eU_gen (fun _ hk => (h.node hk).2) g
/-- idx is an element of the tree k -/
def inT (S : sp_S) : Nat → Nat → Nat → Prop
  | 0, _, _ => False
  | h + 1, k, idx => idx / 4 ^ h < s_cnt S k ∧ (h ≠ 0 → inT S h (s_chd S k (idx / 4 ^ h)) (idx % 4 ^ h))
/-- idx is the place behind the tree o -/
def exT (S : sp_S) : Nat → Option Nat → Nat → Prop
  | 0, _, _ => False
  | h + 1, o, idx => idx / 4 ^ h < 4 ∧ idx / 4 ^ h ≤ cntO S o ∧ cntO S o ≤ idx / 4 ^ h + 1 ∧ (h ≠ 0 → exT S h (kidO S o (idx / 4 ^ h)) (idx % 4 ^ h))
theorem cpy_1 (S : sp_S) (o : Option Nat) (idx : Nat) (its : Int32) : cpy S 1 o idx its = (s_nn S, mkC S o idx its true) := rfl
theorem cpy_s {S : sp_S} {h : Nat} (hz : h ≠ 0) (o : Option Nat) (idx : Nat) (its : Int32) : cpy S (h + 1) o idx its = (s_nn (cpy S h (kidO S o (idx / 4 ^ h)) (idx % 4 ^ h) its).2, mkC (cpy S h (kidO S o (idx / 4 ^ h)) (idx % 4 ^ h) its).2 o (idx / 4 ^ h) (nI (cpy S h (kidO S o (idx / 4 ^ h)) (idx % 4 ^ h) its).1) false) := if_neg hz
theorem cpy_ex (S : sp_S) (its : Int32) : ∀ (h : Nat) (o : Option Nat) (idx : Nat), exN S (cpy S h o idx its).2 ∧ s_nn (cpy S h o idx its).2 = s_nn S + h ∧ (h ≠ 0 → (cpy S h o idx its).1 + 1 = s_nn S + h) := by
  intro h
  induction h with
  | zero => intro o idx; exact ⟨exN.rf, rfl, fun z => absurd rfl z⟩
  | succ h ih =>
    intro o idx
    by_cases z : h = 0
    · subst z; rw [cpy_1]; exact ⟨exN.addN, rfl, fun _ => rfl⟩
    · rw [cpy_s z]
      obtain ⟨h1, h2, h3⟩ := ih (kidO S o (idx / 4 ^ h)) (idx % 4 ^ h)
      refine ⟨h1.tr exN.addN, ?_, fun _ => ?_⟩
      · show s_nn (cpy S h _ _ its).2 + 1 = _
        omega
      · show s_nn (cpy S h _ _ its).2 + 1 = _
        omega
/-- a node, or none, at the height h -/
def HgO (S : sp_S) (h : Nat) (o : Option Nat) : Prop := ∀ r, o = some r → Hgt S h r
theorem HgO.kid {S : sp_S} {h p : Nat} (hz : h ≠ 0) {o : Option Nat} (g : HgO S (h + 1) o) : HgO S h (kidO S o p) := by
  intro r hr
  cases o with
  | none => cases hr
  | some k =>
    have hr' : (if p < s_cnt S k then some (s_chd S k p) else none) = some r := hr
    split at hr'
    · next hp =>
      cases hr'
      exact (g k rfl).2.2 hz p hp
    · cases hr'
theorem HgO.lt {S : sp_S} {h : Nat} {o : Option Nat} (g : HgO S (h + 1) o) : ∀ r, o = some r → r < s_nn S := fun r hr => (g r hr).1
theorem WF_mkC {S T : sp_S} (hW : WF T) (hn : s_nn T < 190) (hE : exN S T) (hS : WF S) {h : Nat} {o : Option Nat} (g : HgO S (h + 1) o) {pos : Nat} (hp : pos < 4) (hq : pos ≤ cntO S o) {its : Int32} {b : Bool} (hb : b = false → h ≠ 0 ∧ ∃ j, j < s_nn T ∧ its = nI j) : WF (mkC T o pos its b) := by
  obtain ⟨e1, e2⟩ := hE.cntO g.lt
  have hc : cntO S o ≤ 4 := by
    cases o with
    | none => exact Nat.zero_le _
    | some k => exact hS.cnt (g.lt k rfl)
  refine WF_addN hW hn (by rw [e1]; omega) (fun hf i hi => ?_)
  obtain ⟨hz, hj⟩ := hb hf
  show ∃ j, j < s_nn T ∧ (if i = pos then its else entO T o i) = nI j
  by_cases z : i = pos
  · rw [if_pos z]; exact hj
  · rw [if_neg z, e2]
    rw [e1] at hi
    have hi' : i < cntO S o := by omega
    cases o with
    | none => exact absurd hi' (Nat.not_lt_zero _)
    | some k =>
      have gk := g k rfl
      have hl : s_leaf S k = false := by
        cases z : s_leaf S k with
        | false => rfl
        | true => exact absurd (gk.2.1.mp z) hz
      obtain ⟨h1, h2⟩ := hS.ent gk.1 hl hi'
      exact ⟨_, Nat.lt_of_lt_of_le (Nat.lt_trans h2 gk.1) hE.2.2.1, h1⟩
theorem exT_le {S : sp_S} {h idx : Nat} {o : Option Nat} (g : exT S (h + 1) o idx) : idx / 4 ^ h < 4 ∧ idx / 4 ^ h ≤ cntO S o ∧ cntO S o ≤ idx / 4 ^ h + 1 := ⟨g.1, g.2.1, g.2.2.1⟩
/-- what the copying of a path wants: the places are there, or just behind -/
def paT (S : sp_S) : Nat → Option Nat → Nat → Prop
  | 0, _, _ => False
  | h + 1, o, idx => idx / 4 ^ h < 4 ∧ idx / 4 ^ h ≤ cntO S o ∧ (h ≠ 0 → paT S h (kidO S o (idx / 4 ^ h)) (idx % 4 ^ h))
theorem exT.pa {S : sp_S} : ∀ {h idx : Nat} {o : Option Nat}, exT S h o idx → paT S h o idx := by
  intro h
  induction h with
  | zero => intro idx o g; exact g
  | succ h ih => intro idx o g; exact ⟨g.1, g.2.1, fun z => ih (g.2.2.2 z)⟩
theorem inT.pa {S : sp_S} (hW : WF S) : ∀ {h idx k : Nat}, Hgt S h k → inT S h k idx → paT S h (some k) idx := by
  intro h
  induction h with
  | zero => intro idx k _ g; exact g
  | succ h ih =>
    intro idx k hg g
    have := hW.cnt hg.1
    refine ⟨Nat.lt_of_lt_of_le g.1 this, Nat.le_of_lt g.1, fun z => ?_⟩
    have e : kidO S (some k) (idx / 4 ^ h) = some (s_chd S k (idx / 4 ^ h)) := if_pos g.1
    rw [e]
    exact ih (hg.2.2 z _ g.1) (g.2 z)
theorem cpy_WF {S : sp_S} (hS : WF S) (its : Int32) : ∀ {h : Nat} {o : Option Nat} {idx : Nat}, HgO S h o → paT S h o idx → s_nn S + h ≤ 190 → WF (cpy S h o idx its).2 := by
  intro h
  induction h with
  | zero => intro o idx _ g _; exact g.elim
  | succ h ih =>
    intro o idx hg g hn
    by_cases z : h = 0
    · subst z
      rw [cpy_1]
      have e : idx / 4 ^ 0 = idx := Nat.div_one _
      have g1 := g.1
      have g2 := g.2.1
      rw [e] at g1 g2
      exact WF_mkC hS (by omega) exN.rf hS hg g1 g2 (fun hf => by cases hf)
    · rw [cpy_s z]
      have hk := hg.kid z (p := idx / 4 ^ h)
      obtain ⟨h1, h2, h3⟩ := cpy_ex S its h (kidO S o (idx / 4 ^ h)) (idx % 4 ^ h)
      have h4 := h3 z
      exact WF_mkC (ih hk (g.2.2 z) (by omega)) (by omega) h1 hS hg g.1 g.2.1 (fun _ => ⟨z, _, by omega, rfl⟩)
theorem p4_le {h : Nat} (hh : h + 1 ≤ 4) : 4 ^ h ≤ 64 := by
  match h, hh with
  | 0, _ => decide
  | 1, _ => decide
  | 2, _ => decide
  | 3, _ => decide
  | n + 4, hh => omega
theorem p4_pos (h : Nat) : 0 < 4 ^ h := Nat.pow_pos (by decide)
theorem lf_false {S : sp_S} {h k : Nat} (g : Hgt S (h + 1) k) (hz : h ≠ 0) : s_leaf S k = false := by
  cases z : s_leaf S k with
  | false => rfl
  | true => exact absurd (g.2.1.mp z) hz
theorem kidO_n {S : sp_S} {o : Option Nat} {p : Nat} (h : o = none) : kidO S o p = none := by rw [h]; rfl
theorem kidO_t {S : sp_S} {o : Option Nat} {r p : Nat} (h : o = some r) (hp : p < s_cnt S r) : kidO S o p = some (s_chd S r p) := by rw [h]; exact if_pos hp
theorem kidO_f {S : sp_S} {o : Option Nat} {r p : Nat} (h : o = some r) (hp : s_cnt S r ≤ p) : kidO S o p = none := by rw [h]; exact if_neg (by omega)
theorem cntO_le {S : sp_S} (hW : WF S) {o : Option Nat} (h : ∀ r, o = some r → r < s_nn S) : cntO S o ≤ 4 := by
  cases o with
  | none => exact Nat.zero_le _
  | some r => exact hW.cnt (h r rfl)
theorem cpy_some {S : sp_S} {h k idx : Nat} {its : Int32} (hz : h ≠ 0) (hq : idx / 4 ^ h < s_cnt S k) : cpy S (h + 1) (some k) idx its = (s_nn (cpy S h (some (s_chd S k (idx / 4 ^ h))) (idx % 4 ^ h) its).2, mkC (cpy S h (some (s_chd S k (idx / 4 ^ h))) (idx % 4 ^ h) its).2 (some k) (idx / 4 ^ h) (nI (cpy S h (some (s_chd S k (idx / 4 ^ h))) (idx % 4 ^ h) its).1) false) := by
  rw [cpy_s hz, kidO_t rfl hq]
theorem rem_set {S T : sp_S} {f : Nat → Int32} {k pos : Nat} {its : Int32} {b : Bool} (hE : exN S T) (hk : k < s_nn S) (hp : pos < s_cnt S k) (h : TR f (addN T b (if false = true then pos + 1 else cntO T (some k)) (fun i => if i = pos then its else entO T (some k) i))) : TR f (mkC T (some k) pos its b) := by
  have e : cntO T (some k) = s_cnt S k := (hE.node hk).2.2.1
  unfold mkC
  rw [if_neg (by decide)] at h
  rw [show max (cntO T (some k)) (pos + 1) = cntO T (some k) by omega]
  exact h
theorem rem_ext {S T : sp_S} {f : Nat → Int32} {o : Option Nat} {pos : Nat} {its : Int32} {b : Bool} (hE : exN S T) (ho : ∀ r, o = some r → r < s_nn S) (hp : cntO S o ≤ pos + 1) (h : TR f (addN T b (if true = true then pos + 1 else cntO T o) (fun i => if i = pos then its else entO T o i))) : TR f (mkC T o pos its b) := by
  have e := (hE.cntO ho).1
  unfold mkC
  rw [if_pos rfl] at h
  rw [show max (cntO T o) (pos + 1) = pos + 1 by omega]
  exact h
