/-! nodes and versions added; the paths copied -/
def cntO (S : sp_S) (o : Option Nat) : Nat := match o with
  | none => 0
  | some k => s_cnt S k
def entO (S : sp_S) (o : Option Nat) (i : Nat) : Int32 := match o with
  | none => 0
  | some k => s_ent S k i
def kidO (S : sp_S) (o : Option Nat) (p : Nat) : Option Nat := match o with
  | none => none
  | some k => if p < s_cnt S k then some (s_chd S k p) else none
/-- a node like o with another entry at pos -/
def mkC (S : sp_S) (o : Option Nat) (pos : Nat) (its : Int32) (leaf : Bool) : sp_S := addN S leaf (max (cntO S o) (pos + 1)) (fun i => if i = pos then its else entO S o i)
/-- the path to idx copied, with its there -/
def cpy (S : sp_S) : Nat → Option Nat → Nat → Int32 → Nat × sp_S
  | 0, _, _, _ => (0, S)
  | h + 1, o, idx, its => if h = 0 then (s_nn S, mkC S o idx its true) else
      (s_nn (cpy S h (kidO S o (idx / 4 ^ h)) (idx % 4 ^ h) its).2, mkC (cpy S h (kidO S o (idx / 4 ^ h)) (idx % 4 ^ h) its).2 o (idx / 4 ^ h) (nI (cpy S h (kidO S o (idx / 4 ^ h)) (idx % 4 ^ h) its).1) false)
/-- the path to the last of len elements copied, nothing behind it -/
def ctP (S : sp_S) : Nat → Nat → Nat → Nat × sp_S
  | 0, _, _ => (0, S)
  | h + 1, k, len => if eU S (h + 1) k = len then (k, S) else if h = 0 then (s_nn S, addN S true len (s_ent S k)) else
      (s_nn (ctP S h (s_chd S k ((len - 1) / 4 ^ h)) ((len - 1) % 4 ^ h + 1)).2, addN (ctP S h (s_chd S k ((len - 1) / 4 ^ h)) ((len - 1) % 4 ^ h + 1)).2 false ((len - 1) / 4 ^ h + 1) (fun i => if i = (len - 1) / 4 ^ h then nI (ctP S h (s_chd S k ((len - 1) / 4 ^ h)) ((len - 1) % 4 ^ h + 1)).1 else s_ent S k i))
section ADN
variable {S : sp_S} {b : Bool} {c : Nat} {e : Nat → Int32}
theorem addN_nn : s_nn (addN S b c e) = s_nn S + 1 := rfl
theorem addN_nv : s_nv (addN S b c e) = s_nv S := rfl
theorem addN_new : s_sto (addN S b c e) (s_nn S) = true ∧ s_leaf (addN S b c e) (s_nn S) = b ∧ s_cnt (addN S b c e) (s_nn S) = c ∧ s_ent (addN S b c e) (s_nn S) = e := by
  have h : (addN S b c e).2.2.2 (s_nn S) = (true, b, c, e) := if_pos rfl
  unfold s_sto s_leaf s_cnt s_ent
  rw [h]
  exact ⟨rfl, rfl, rfl, rfl⟩
theorem addN_old {k : Nat} (hk : k ≠ s_nn S) : s_sto (addN S b c e) k = s_sto S k ∧ s_leaf (addN S b c e) k = s_leaf S k ∧ s_cnt (addN S b c e) k = s_cnt S k ∧ s_ent (addN S b c e) k = s_ent S k := by
  have h : (addN S b c e).2.2.2 k = S.2.2.2 k := if_neg hk
  unfold s_sto s_leaf s_cnt s_ent
  rw [h]
  exact ⟨rfl, rfl, rfl, rfl⟩
theorem addN_ver (v : Nat) : s_len (addN S b c e) v = s_len S v ∧ s_root (addN S b c e) v = s_root S v ∧ s_par (addN S b c e) v = s_par S v ∧ s_rel (addN S b c e) v = s_rel S v ∧ s_cre (addN S b c e) v = s_cre S v ∧ s_els (addN S b c e) v = s_els S v := ⟨rfl, rfl, rfl, rfl, rfl, rfl⟩
theorem WF_addN (hW : WF S) (hn : s_nn S < 190) (hc : c ≤ 4) (he : b = false → ∀ i, i < c → ∃ j, j < s_nn S ∧ e i = nI j) : WF (addN S b c e) := by
  refine ⟨hW.1, by rw [addN_nn]; omega, fun v hv => ?_, fun k hk => ?_⟩
  · obtain ⟨h1, h2, h3⟩ := hW.2.2.1 v hv
    exact ⟨h1, fun r hr => Nat.lt_succ_of_lt (h2 r hr), h3⟩
  · rw [addN_nn] at hk
    by_cases z : k = s_nn S
    · subst z
      obtain ⟨-, e2, e3, e4⟩ := addN_new (S := S) (b := b) (c := c) (e := e)
      rw [e2, e3, e4]
      exact ⟨hc, he⟩
    · obtain ⟨-, e2, e3, e4⟩ := addN_old (S := S) (b := b) (c := c) (e := e) z
      rw [e2, e3, e4]
      exact hW.2.2.2 k (by omega)
set_option maxRecDepth 100000 in
theorem TR_aN0 {f g : Nat → Int32} (hR : TR f S) (hW : WF S) (K : ∀ j, j ≠ 1 → j < 2810 + 7 * s_nn S → g j = f j) : g 0 = nI (s_nv S) := by
  refine (K 0 (by decide) ?_).trans hR.nv
  generalize 7 * s_nn S = w
  exact Nat.lt_of_lt_of_le (by decide : 0 < 2810) (Nat.le_add_right _ _)
theorem TR_aNv {f g : Nat → Int32} (hR : TR f S) (hW : WF S) (K : ∀ j, j ≠ 1 → j < 2810 + 7 * s_nn S → g j = f j) : ∀ v, v < s_nv S → g (10 + 6 * v) = nI (s_len S v) ∧ g (10 + 6 * v + 1) = oI (s_root S v) ∧ g (10 + 6 * v + 2) = nI (hf (s_len S v)) ∧ g (10 + 6 * v + 3) = oI (s_par S v) ∧ g (10 + 6 * v + 4) = mm_b (s_rel S v) ∧ g (10 + 6 * v + 5) = nI (s_cre S v) ∧ ∀ i, i < s_len S v → g (250 + 64 * v + i) = s_els S v i := by
  intro v hv
  have hnv := hW.nv
  have hlv := hW.len hv
  exact ⟨(K _ (by omega) (by omega)).trans (hR.len hv), (K _ (by omega) (by omega)).trans (hR.root hv), (K _ (by omega) (by omega)).trans (hR.hgt hv), (K _ (by omega) (by omega)).trans (hR.par hv), (K _ (by omega) (by omega)).trans (hR.rel hv), (K _ (by omega) (by omega)).trans (hR.cre hv), fun i hi => (K _ (by omega) (by omega)).trans (hR.els hv hi)⟩
theorem TR_aNk {f g : Nat → Int32} (hR : TR f S) (hW : WF S) (K : ∀ j, j ≠ 1 → j < 2810 + 7 * s_nn S → g j = f j) : ∀ k, k < s_nn S → g (2810 + 7 * k) = mm_b (s_leaf S k) ∧ g (2810 + 7 * k + 1) = nI (s_cnt S k) ∧ (∀ i, i < s_cnt S k → g (2810 + 7 * k + 2 + i) = s_ent S k i) ∧ g (2810 + 7 * k + 6) = mm_b (s_sto S k) := by
  intro k hk
  have hck := hW.cnt hk
  exact ⟨(K _ (by omega) (by omega)).trans (hR.leaf hk), (K _ (by omega) (by omega)).trans (hR.cnt hk), fun i hi => (K _ (by omega) (by omega)).trans (hR.ent hk hi), (K _ (by omega) (by omega)).trans (hR.sto hk)⟩
theorem TR_addN {f g : Nat → Int32} (hR : TR f S) (hW : WF S) (_hc : c ≤ 4) (h0 : ∀ j, j ≠ 1 → (j < 2810 + 7 * s_nn S ∨ 2810 + 7 * s_nn S + 7 ≤ j) → g j = f j) (h1 : g 1 = nI (s_nn S + 1)) (hl : g (2810 + 7 * s_nn S) = mm_b b) (hcn : g (2810 + 7 * s_nn S + 1) = nI c) (he : ∀ i, i < c → g (2810 + 7 * s_nn S + 2 + i) = e i) (hs : g (2810 + 7 * s_nn S + 6) = mm_b true) : TR g (addN S b c e) := by
  have K : ∀ j, j ≠ 1 → j < 2810 + 7 * s_nn S → g j = f j := fun j a b => h0 j a (.inl b)
  refine ⟨TR_aN0 (S := S) hR hW K, h1, TR_aNv (S := S) hR hW K, fun k hk => ?_⟩
  by_cases z : k = s_nn S
  · rw [z]
    obtain ⟨e1, e2, e3, e4⟩ := addN_new (S := S) (b := b) (c := c) (e := e)
    rw [e1, e2, e3, e4]
    exact ⟨hl, hcn, he, hs⟩
  · obtain ⟨e1, e2, e3, e4⟩ := addN_old (S := S) (b := b) (c := c) (e := e) z
    rw [e1, e2, e3, e4]
    exact TR_aNk hR hW K k (Nat.lt_of_le_of_ne (Nat.le_of_lt_succ hk) z)
theorem TR_addN_congr {g : Nat → Int32} {e' : Nat → Int32} (h : TR g (addN S b c e)) (he : ∀ i, i < c → e i = e' i) : TR g (addN S b c e') := by
  refine ⟨h.1, h.2.1, h.2.2.1, fun k hk => ?_⟩
  have h4 := h.2.2.2 k hk
  by_cases z : k = s_nn S
  · subst z
    obtain ⟨e1, e2, e3, e4⟩ := addN_new (S := S) (b := b) (c := c) (e := e)
    obtain ⟨d1, d2, d3, d4⟩ := addN_new (S := S) (b := b) (c := c) (e := e')
    rw [e1, e2, e3, e4] at h4
    rw [d1, d2, d3, d4]
    exact ⟨h4.1, h4.2.1, fun i hi => by rw [← he i hi]; exact h4.2.2.1 i hi, h4.2.2.2⟩
  · obtain ⟨e1, e2, e3, e4⟩ := addN_old (S := S) (b := b) (c := c) (e := e) z
    obtain ⟨d1, d2, d3, d4⟩ := addN_old (S := S) (b := b) (c := c) (e := e') z
    rw [e1, e2, e3, e4] at h4
    rw [d1, d2, d3, d4]
    exact h4
/-- new nodes leave the old heights -/
theorem Hgt_addN (hW : WF S) : ∀ {h k : Nat}, Hgt S h k → Hgt (addN S b c e) h k := by
  intro h
  induction h with
  | zero => intro k g; exact g
  | succ h ih =>
    intro k g
    obtain ⟨-, e2, e3, e4⟩ := addN_old (S := S) (b := b) (c := c) (e := e) (k := k) (by have := g.1; omega)
    refine ⟨Nat.lt_succ_of_lt g.1, by rw [e2]; exact g.2.1, fun z i hi => ?_⟩
    rw [e3] at hi
    have : s_chd (addN S b c e) k i = s_chd S k i := by unfold s_chd; rw [e4]
    rw [this]
    exact ih (g.2.2 z i hi)
theorem eU_z (T : sp_S) (k : Nat) : eU T 0 k = 0 := rfl
theorem eU_l {T : sp_S} {h k : Nat} (hl : s_leaf T k = true) : eU T (h + 1) k = s_cnt T k := if_pos hl
theorem eU_i {T : sp_S} {h k : Nat} (hl : s_leaf T k = false) : eU T (h + 1) k = sumN (s_cnt T k) (fun i => eU T h (s_chd T k i)) := if_neg (by rw [hl]; decide)
theorem sumN_cg {f g : Nat → Nat} : ∀ {n : Nat}, (∀ i, i < n → f i = g i) → sumN n f = sumN n g := by
  intro n
  induction n with
  | zero => intro _; rfl
  | succ n ih => intro h; rw [sumN_succ, sumN_succ, ih (fun i hi => h i (Nat.lt_succ_of_lt hi)), h n (Nat.lt_succ_self n)]
theorem eU_gen {S T : sp_S} (hT : ∀ k, k < s_nn S → s_leaf T k = s_leaf S k ∧ s_cnt T k = s_cnt S k ∧ s_ent T k = s_ent S k) : ∀ {h k : Nat}, Hgt S h k → eU T h k = eU S h k := by
  intro h
  induction h with
  | zero => intro k g; rw [eU_z, eU_z]
  | succ h ih =>
    intro k g
    obtain ⟨e2, e3, e4⟩ := hT k g.1
    cases hl : s_leaf S k with
    | true => rw [eU_l hl, eU_l (e2.trans hl), e3]
    | false =>
      rw [eU_i hl, eU_i (e2.trans hl), e3]
      refine sumN_cg (fun i hi => ?_)
      have e5 : s_chd T k i = s_chd S k i := by unfold s_chd; rw [e4]
      rw [e5, ih (g.chd hl hi)]
theorem eU_addN (_hW : WF S) {h k : Nat} (g : Hgt S h k) : eU (addN S b c e) h k = eU S h k := eU_gen (fun _ hk => (addN_old (S := S) (b := b) (c := c) (e := e) (Nat.ne_of_lt hk)).2) g
end ADN
section ADV
variable {S : sp_S} {par : Option Nat} {len : Nat} {root : Option Nat} {before : Nat} {els : Nat → Int32}
theorem addV_nv : s_nv (addV S par len root before els) = s_nv S + 1 := rfl
theorem addV_nn : s_nn (addV S par len root before els) = s_nn S := rfl
theorem addV_new : s_len (addV S par len root before els) (s_nv S) = len ∧ s_root (addV S par len root before els) (s_nv S) = root ∧ s_par (addV S par len root before els) (s_nv S) = par ∧ s_rel (addV S par len root before els) (s_nv S) = false ∧ s_cre (addV S par len root before els) (s_nv S) = s_nn S - before ∧ s_els (addV S par len root before els) (s_nv S) = els := by
  have h : (addV S par len root before els).2.2.1 (s_nv S) = (len, root, par, false, s_nn S - before, els) := if_pos rfl
  unfold s_len s_root s_par s_rel s_cre s_els
  rw [h]
  exact ⟨rfl, rfl, rfl, rfl, rfl, rfl⟩
theorem addV_old {v : Nat} (hv : v ≠ s_nv S) : s_len (addV S par len root before els) v = s_len S v ∧ s_root (addV S par len root before els) v = s_root S v ∧ s_par (addV S par len root before els) v = s_par S v ∧ s_rel (addV S par len root before els) v = s_rel S v ∧ s_cre (addV S par len root before els) v = s_cre S v ∧ s_els (addV S par len root before els) v = s_els S v := by
  have h : (addV S par len root before els).2.2.1 v = S.2.2.1 v := if_neg hv
  unfold s_len s_root s_par s_rel s_cre s_els
  rw [h]
  exact ⟨rfl, rfl, rfl, rfl, rfl, rfl⟩
theorem addV_node (k : Nat) : s_sto (addV S par len root before els) k = s_sto S k ∧ s_leaf (addV S par len root before els) k = s_leaf S k ∧ s_cnt (addV S par len root before els) k = s_cnt S k ∧ s_ent (addV S par len root before els) k = s_ent S k := ⟨rfl, rfl, rfl, rfl⟩
theorem WF_addV (hW : WF S) (hn : s_nv S < 40) (hl : len ≤ 64) (hr : ∀ r, root = some r → r < s_nn S) (hp : ∀ q, par = some q → q < s_nv S) : WF (addV S par len root before els) := by
  refine ⟨by rw [addV_nv]; omega, hW.2.1, fun v hv => ?_, hW.2.2.2⟩
  rw [addV_nv] at hv
  by_cases z : v = s_nv S
  · subst z
    obtain ⟨e1, e2, e3, -⟩ := addV_new (S := S) (par := par) (len := len) (root := root) (before := before) (els := els)
    rw [e1, e2, e3]
    exact ⟨hl, hr, hp⟩
  · obtain ⟨e1, e2, e3, -⟩ := addV_old (S := S) (par := par) (len := len) (root := root) (before := before) (els := els) z
    rw [e1, e2, e3]
    exact hW.2.2.1 v (by omega)
set_option maxRecDepth 100000 in
theorem TR_addV {f g : Nat → Int32} (hR : TR f S) (hW : WF S) (hv9 : s_nv S < 40) (hl9 : len ≤ 64) (h0 : ∀ j, j ≠ 0 → (j < 10 + 6 * s_nv S ∨ 10 + 6 * s_nv S + 6 ≤ j) → (j < 250 + 64 * s_nv S ∨ 250 + 64 * s_nv S + 64 ≤ j) → g j = f j) (h1 : g 0 = nI (s_nv S + 1)) (hl : g (10 + 6 * s_nv S) = nI len) (hr : g (10 + 6 * s_nv S + 1) = oI root) (hh : g (10 + 6 * s_nv S + 2) = nI (hf len)) (hp : g (10 + 6 * s_nv S + 3) = oI par) (hq : g (10 + 6 * s_nv S + 4) = mm_b false) (hc : g (10 + 6 * s_nv S + 5) = nI (s_nn S - before)) (he : ∀ i, i < len → g (250 + 64 * s_nv S + i) = els i) : TR g (addV S par len root before els) := by
  have hnn := hW.nn
  refine ⟨h1, (h0 1 (by omega) (by omega) (by omega)).trans hR.nn, fun v hv => ?_, fun k hk => ?_⟩
  · rw [addV_nv] at hv
    by_cases z : v = s_nv S
    · subst z
      obtain ⟨e1, e2, e3, e4, e5, e6⟩ := addV_new (S := S) (par := par) (len := len) (root := root) (before := before) (els := els)
      rw [e1, e2, e3, e4, e5, e6]
      exact ⟨hl, hr, hh, hp, hq, hc, he⟩
    · obtain ⟨e1, e2, e3, e4, e5, e6⟩ := addV_old (S := S) (par := par) (len := len) (root := root) (before := before) (els := els) z
      have hv' : v < s_nv S := by omega
      have hlv := hW.len hv'
      rw [e1, e2, e3, e4, e5, e6]
      exact ⟨(h0 _ (by omega) (by omega) (by omega)).trans (hR.len hv'), (h0 _ (by omega) (by omega) (by omega)).trans (hR.root hv'), (h0 _ (by omega) (by omega) (by omega)).trans (hR.hgt hv'), (h0 _ (by omega) (by omega) (by omega)).trans (hR.par hv'), (h0 _ (by omega) (by omega) (by omega)).trans (hR.rel hv'), (h0 _ (by omega) (by omega) (by omega)).trans (hR.cre hv'), fun i hi => (h0 _ (by omega) (by omega) (by omega)).trans (hR.els hv' hi)⟩
  · have hk' : k < s_nn S := hk
    have hck := hW.cnt hk'
    exact ⟨(h0 _ (by omega) (by omega) (by omega)).trans (hR.leaf hk'), (h0 _ (by omega) (by omega) (by omega)).trans (hR.cnt hk'), fun i hi => by have hi' : i < s_cnt S k := hi; exact (h0 _ (by omega) (by omega) (by omega)).trans (hR.ent hk' hi'), (h0 _ (by omega) (by omega) (by omega)).trans (hR.sto hk')⟩
theorem TR_addV_congr {g : Nat → Int32} {els' : Nat → Int32} (h : TR g (addV S par len root before els)) (he : ∀ i, i < len → els i = els' i) : TR g (addV S par len root before els') := by
  refine ⟨h.1, h.2.1, fun v hv => ?_, h.2.2.2⟩
  have h4 := h.2.2.1 v hv
  by_cases z : v = s_nv S
  · subst z
    obtain ⟨e1, e2, e3, e4, e5, e6⟩ := addV_new (S := S) (par := par) (len := len) (root := root) (before := before) (els := els)
    obtain ⟨d1, d2, d3, d4, d5, d6⟩ := addV_new (S := S) (par := par) (len := len) (root := root) (before := before) (els := els')
    rw [e1, e2, e3, e4, e5, e6] at h4
    rw [d1, d2, d3, d4, d5, d6]
    exact ⟨h4.1, h4.2.1, h4.2.2.1, h4.2.2.2.1, h4.2.2.2.2.1, h4.2.2.2.2.2.1, fun i hi => by rw [← he i hi]; exact h4.2.2.2.2.2.2 i hi⟩
  · obtain ⟨e1, e2, e3, e4, e5, e6⟩ := addV_old (S := S) (par := par) (len := len) (root := root) (before := before) (els := els) z
    obtain ⟨d1, d2, d3, d4, d5, d6⟩ := addV_old (S := S) (par := par) (len := len) (root := root) (before := before) (els := els') z
    rw [e1, e2, e3, e4, e5, e6] at h4
    rw [d1, d2, d3, d4, d5, d6]
    exact h4
end ADV
