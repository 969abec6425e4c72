/-! cut paths, new versions -/
theorem ctP_same {S : sp_S} {h k len : Nat} (e : eU S (h + 1) k = len) : ctP S (h + 1) k len = (k, S) := if_pos e
theorem ctP_1 {S : sp_S} {k len : Nat} (e : eU S 1 k ≠ len) : ctP S 1 k len = (s_nn S, addN S true len (s_ent S k)) := if_neg e
theorem ctP_s {S : sp_S} {h k len : Nat} (e : eU S (h + 1) k ≠ len) (hz : h ≠ 0) : ctP S (h + 1) k len = (s_nn (ctP S h (s_chd S k ((len - 1) / 4 ^ h)) ((len - 1) % 4 ^ h + 1)).2, addN (ctP S h (s_chd S k ((len - 1) / 4 ^ h)) ((len - 1) % 4 ^ h + 1)).2 false ((len - 1) / 4 ^ h + 1) (fun i => if i = (len - 1) / 4 ^ h then nI (ctP S h (s_chd S k ((len - 1) / 4 ^ h)) ((len - 1) % 4 ^ h + 1)).1 else s_ent S k i)) := (if_neg e).trans (if_neg hz)
/-- a tree that can be cut to len elements -/
def cuT (S : sp_S) : Nat → Nat → Nat → Prop
  | 0, _, _ => False
  | h + 1, k, len => 1 ≤ len ∧ (eU S (h + 1) k = len ∨ ((len - 1) / 4 ^ h < s_cnt S k ∧ (h ≠ 0 → cuT S h (s_chd S k ((len - 1) / 4 ^ h)) ((len - 1) % 4 ^ h + 1))))
theorem sumN_le {f : Nat → Nat} {b : Nat} : ∀ {n : Nat}, (∀ i, i < n → f i ≤ b) → sumN n f ≤ n * b := by
  intro n
  induction n with
  | zero => intro _; exact Nat.zero_le _
  | succ n ih =>
    intro h
    rw [sumN_succ, Nat.succ_mul]
    exact Nat.add_le_add (ih (fun i hi => h i (by omega))) (h n (by omega))
theorem eU_le {S : sp_S} (hW : WF S) : ∀ {h k : Nat}, Hgt S h k → eU S h k ≤ 4 ^ h := by
  intro h
  induction h with
  | zero => intro k g; exact g.elim
  | succ h ih =>
    intro k g
    have hc := hW.cnt g.1
    cases hl : s_leaf S k with
    | true =>
      rw [eU_l hl, g.2.1.mp hl]; exact hc
    | false =>
      rw [eU_i hl]
      have := sumN_le (b := 4 ^ h) (n := s_cnt S k) (fun i hi => ih (g.chd hl hi))
      have h2 := Nat.mul_le_mul_right (4 ^ h) hc
      rw [Nat.pow_succ]; omega
theorem ctP_ex {S : sp_S} : ∀ {h k len : Nat}, Hgt S h k → cuT S h k len → exN S (ctP S h k len).2 ∧ s_nn (ctP S h k len).2 ≤ s_nn S + h ∧ (ctP S h k len).1 < s_nn (ctP S h k len).2 := by
  intro h
  induction h with
  | zero => intro k len g _; exact g.elim
  | succ h ih =>
    intro k len g hc
    by_cases e : eU S (h + 1) k = len
    · rw [ctP_same e]; exact ⟨exN.rf, Nat.le_add_right _ _, g.1⟩
    · obtain ⟨hc1, hc2⟩ := hc.2.resolve_left e
      by_cases z : h = 0
      · subst z; rw [ctP_1 e]; exact ⟨exN.addN, Nat.le_refl _, Nat.lt_succ_self _⟩
      · rw [ctP_s e z]
        obtain ⟨h1, h2, h3⟩ := ih (g.2.2 z _ hc1) (hc2 z)
        refine ⟨h1.tr exN.addN, ?_, Nat.lt_succ_self _⟩
        show s_nn (ctP S h _ _).2 + 1 ≤ _
        omega
theorem ctP_WF {S : sp_S} (hW : WF S) : ∀ {h k len : Nat}, Hgt S h k → cuT S h k len → s_nn S + h ≤ 190 → WF (ctP S h k len).2 := by
  intro h
  induction h with
  | zero => intro k len g _ _; exact g.elim
  | succ h ih =>
    intro k len g hc hn
    by_cases e : eU S (h + 1) k = len
    · rw [ctP_same e]; exact hW
    · obtain ⟨hc1, hc2⟩ := hc.2.resolve_left e
      have hk := hW.cnt g.1
      by_cases z : h = 0
      · subst z; rw [ctP_1 e]
        rw [Nat.pow_zero, Nat.div_one] at hc1
        exact WF_addN hW (by omega) (by omega) (fun hf => by cases hf)
      · rw [ctP_s e z]
        have hgk := g.2.2 z _ hc1
        obtain ⟨h1, h2, h3⟩ := ctP_ex hgk (hc2 z)
        refine WF_addN (ih hgk (hc2 z) (by omega)) (by omega) (by omega) (fun _ i hi => ?_)
        by_cases y : i = (len - 1) / 4 ^ h
        · rw [if_pos y]; exact ⟨_, h3, rfl⟩
        · rw [if_neg y]
          obtain ⟨h4, h5⟩ := hW.ent g.1 (lf_false g z) (i := i) (by omega)
          exact ⟨_, Nat.lt_of_lt_of_le (Nat.lt_trans h5 g.1) h1.2.2.1, h4⟩
theorem cut_1 {S : sp_S} {f : Nat → Int32} {k len : Nat} (hl : 1 ≤ len) (e : eU S 1 k ≠ len) (h : TR f (addN S true (if true = true then len - 1 + 1 else cntO S (some k)) (fun i => if i = len - 1 then s_ent S k (len - 1) else entO S (some k) i))) : TR f (ctP S 1 k len).2 := by
  rw [ctP_1 e]
  rw [if_pos rfl, Nat.sub_add_cancel hl] at h
  refine TR_addN_congr h (fun i _ => ?_)
  show (if i = len - 1 then s_ent S k (len - 1) else s_ent S k i) = s_ent S k i
  by_cases z : i = len - 1
  · rw [if_pos z, z]
  · rw [if_neg z]
theorem cut_s {S T : sp_S} {f : Nat → Int32} {k pos : Nat} {its : Int32} (hE : exN S T) (hk : k < s_nn S) (h : TR f (addN T false (if true = true then pos + 1 else cntO T (some k)) (fun i => if i = pos then its else entO T (some k) i))) : TR f (addN T false (pos + 1) (fun i => if i = pos then its else s_ent S k i)) := by
  rw [if_pos rfl] at h
  refine TR_addN_congr h (fun i _ => ?_)
  show (if i = pos then its else s_ent T k i) = _
  rw [(hE.node hk).2.2.2]
/-- what a new version has of its parent's elements -/
def pE (S : sp_S) (par : Option Nat) (len i : Nat) : Int32 := match par with
  | none => 0
  | some q => if i < min len (s_len S q) then s_els S q i else 0
theorem pE_n {S : sp_S} {par : Option Nat} {len i : Nat} (h : par = none) : pE S par len i = 0 := by rw [h]; rfl
theorem pE_t {S : sp_S} {par : Option Nat} {q len i : Nat} (h : par = some q) (hi : i < min len (s_len S q)) : pE S par len i = s_els S q i := by rw [h]; exact if_pos hi
theorem pE_f {S : sp_S} {par : Option Nat} {q len i : Nat} (h : par = some q) (hi : min len (s_len S q) ≤ i) : pE S par len i = 0 := by rw [h]; exact if_neg (by omega)
theorem TR_keepV {f g : Nat → Int32} {S : sp_S} (hR : TR f S) (hW : WF S) (hv9 : s_nv S < 40) (h0 : ∀ j, (j < 10 + 6 * s_nv S ∨ 10 + 6 * s_nv S + 6 ≤ j) → (j < 250 + 64 * s_nv S ∨ 250 + 64 * s_nv S + 64 ≤ j) → g j = f j) : TR g S := by
  refine ⟨(h0 0 (by omega) (by omega)).trans hR.nv, (h0 1 (by omega) (by omega)).trans hR.nn, fun v hv => ?_, fun k hk => ?_⟩
  · have hlv := hW.len hv
    exact ⟨(h0 _ (by omega) (by omega)).trans (hR.len hv), (h0 _ (by omega) (by omega)).trans (hR.root hv), (h0 _ (by omega) (by omega)).trans (hR.hgt hv), (h0 _ (by omega) (by omega)).trans (hR.par hv), (h0 _ (by omega) (by omega)).trans (hR.rel hv), (h0 _ (by omega) (by omega)).trans (hR.cre hv), fun i hi => (h0 _ (by omega) (by omega)).trans (hR.els hv hi)⟩
  · have hck := hW.cnt hk
    exact ⟨(h0 _ (by omega) (by omega)).trans (hR.leaf hk), (h0 _ (by omega) (by omega)).trans (hR.cnt hk), fun i hi => (h0 _ (by omega) (by omega)).trans (hR.ent hk hi), (h0 _ (by omega) (by omega)).trans (hR.sto hk)⟩
theorem mk_TRV {F F1 : Nat → Nat → Int32} {S : sp_S} {par root : Option Nat} {len before : Nat} {els : Nat → Int32} (hR : TR (F 0) S) (hW : WF S) (hv9 : s_nv S < 40) (hl9 : len ≤ 64) (h0 : ∀ j, (j < 10 + 6 * s_nv S ∨ 10 + 6 * s_nv S + 6 ≤ j) → (j < 250 + 64 * s_nv S ∨ 250 + 64 * s_nv S + 64 ≤ j) → F1 0 j = F 0 j) (a0 : F1 0 (10 + 6 * s_nv S) = nI len) (a1 : F1 0 (10 + 6 * s_nv S + 1) = oI root) (a2 : F1 0 (10 + 6 * s_nv S + 2) = nI (hf len)) (a3 : F1 0 (10 + 6 * s_nv S + 3) = oI par) (a4 : F1 0 (10 + 6 * s_nv S + 4) = nI 0) (a5 : F1 0 (10 + 6 * s_nv S + 5) = nI (s_nn S - before)) (he : ∀ i, i < 64 → F1 0 (250 + 64 * s_nv S + i) = els i) : TR (tw_u F1 0 0 (nI (s_nv S + 1)) 0) (addV S par len root before els) := by
  have k : ∀ j, j ≠ 0 → tw_u F1 0 0 (nI (s_nv S + 1)) 0 j = F1 0 j := fun j h => by rw [tw_us, pk_un h]
  refine TR_addV hR hW hv9 hl9 (fun j h1 h2 h3 => (k j h1).trans (h0 j h2 h3)) (by rw [tw_us]; exact pk_us) ?_ ?_ ?_ ?_ ?_ ?_ (fun i hi => ?_)
  · rw [k _ (by omega)]; exact a0
  · rw [k _ (by omega)]; exact a1
  · rw [k _ (by omega)]; exact a2
  · rw [k _ (by omega)]; exact a3
  · rw [k _ (by omega)]; exact a4
  · rw [k _ (by omega)]; exact a5
  · rw [k _ (by omega)]; exact he i (by omega)
theorem addV_nnv (S : sp_S) (par root : Option Nat) (len before : Nat) (els : Nat → Int32) : s_nv (addV S par len root before els) = s_nv S + 1 ∧ s_nn (addV S par len root before els) = s_nn S := ⟨rfl, rfl⟩
/-- an element of the newest version written -/
theorem TR_setE {F : Nat → Nat → Int32} {S : sp_S} {par root : Option Nat} {len before idx : Nat} {els : Nat → Int32} {its : Int32} (hW : WF S) (hv9 : s_nv S < 40) (hi64 : idx < 64) (hR : TR (F 0) (addV S par len root before els)) : TR (tw_u F 0 (250 + 64 * s_nv S + idx) its 0) (addV S par len root before (upd els idx its)) := by
  have k : ∀ j, j ≠ 250 + 64 * s_nv S + idx → tw_u F 0 (250 + 64 * s_nv S + idx) its 0 j = F 0 j := fun j h => by rw [tw_us, pk_un h]
  refine ⟨(k _ (by omega)).trans hR.1, (k _ (by omega)).trans hR.2.1, fun v hv => ?_, fun n hn => ?_⟩
  · have hv' : v < s_nv S + 1 := hv
    obtain ⟨b0, b1, b2, b3, b4, b5, b6⟩ := hR.2.2.1 v hv
    by_cases z : v = s_nv S
    · subst z
      obtain ⟨e1, e2, e3, e4, e5, e6⟩ := addV_new (S := S) (par := par) (len := len) (root := root) (before := before) (els := els)
      obtain ⟨d1, d2, d3, d4, d5, d6⟩ := addV_new (S := S) (par := par) (len := len) (root := root) (before := before) (els := upd els idx its)
      rw [e1] at b0 b2; rw [e2] at b1; rw [e3] at b3; rw [e4] at b4; rw [e5] at b5; rw [e6, e1] at b6
      rw [d1, d2, d3, d4, d5, d6]
      refine ⟨(k _ (by omega)).trans b0, (k _ (by omega)).trans b1, (k _ (by omega)).trans b2, (k _ (by omega)).trans b3, (k _ (by omega)).trans b4, (k _ (by omega)).trans b5, fun i hi => ?_⟩
      by_cases y : i = idx
      · subst y; rw [tw_us]; exact pk_us.trans pk_us.symm
      · rw [k _ (by omega), pk_un y]; exact b6 i hi
    · obtain ⟨e1, e2, e3, e4, e5, e6⟩ := addV_old (S := S) (par := par) (len := len) (root := root) (before := before) (els := els) z
      obtain ⟨d1, d2, d3, d4, d5, d6⟩ := addV_old (S := S) (par := par) (len := len) (root := root) (before := before) (els := upd els idx its) z
      rw [e1] at b0 b2; rw [e2] at b1; rw [e3] at b3; rw [e4] at b4; rw [e5] at b5; rw [e6, e1] at b6
      rw [d1, d2, d3, d4, d5, d6]
      have hlv := hW.len (show v < s_nv S by omega)
      exact ⟨(k _ (by omega)).trans b0, (k _ (by omega)).trans b1, (k _ (by omega)).trans b2, (k _ (by omega)).trans b3, (k _ (by omega)).trans b4, (k _ (by omega)).trans b5, fun i hi => (k _ (by omega)).trans (b6 i hi)⟩
  · obtain ⟨b0, b1, b2, b3⟩ := hR.2.2.2 n hn
    have hn' : n < s_nn S := hn
    have hcn := hW.cnt hn'
    exact ⟨(k _ (by omega)).trans b0, (k _ (by omega)).trans b1, fun i hi => (k _ (by omega)).trans (b2 i hi), (k _ (by omega)).trans b3⟩
/-- the calls that make versions -/
def setT (S : sp_S) (v idx : Nat) (its : Int32) : Option Nat × sp_S := if s_els S v idx = its then (s_root S v, S) else (some (cpy S (hf (s_len S v)) (s_root S v) idx its).1, (cpy S (hf (s_len S v)) (s_root S v) idx its).2)
def setOp (S : sp_S) (v idx : Nat) (its : Int32) : sp_S := addV (setT S v idx its).2 (some v) (s_len S v) (setT S v idx its).1 (s_nn S) (upd (pE S (some v) (s_len S v)) idx its)
def appT (S : sp_S) (v : Nat) (its : Int32) : Nat × sp_S := if s_len S v = 0 then cpy S 1 none 0 its else if s_len S v < 4 ^ hf (s_len S v) then cpy S (hf (s_len S v)) (s_root S v) (s_len S v) its else
  (s_nn (cpy S (hf (s_len S v)) none 0 its).2, addN (cpy S (hf (s_len S v)) none 0 its).2 false 2 (fun i => if i = 0 then oI (s_root S v) else nI (cpy S (hf (s_len S v)) none 0 its).1))
def appOp (S : sp_S) (v : Nat) (its : Int32) : sp_S := addV (appT S v its).2 (some v) (s_len S v + 1) (some (appT S v its).1) (s_nn S) (upd (pE S (some v) (s_len S v + 1)) (s_len S v) its)
/-- d steps down to the first child -/
def fst (S : sp_S) : Nat → Nat → Nat
  | 0, k => k
  | d + 1, k => s_chd S (fst S d k) 0
def cutT (S : sp_S) (v n : Nat) : Option Nat × sp_S := match s_root S v with
  | none => (none, S)
  | some r => if n = 0 then (none, S) else (some (ctP S (hf n) (fst S (hf (s_len S v) - hf n) r) n).1, (ctP S (hf n) (fst S (hf (s_len S v) - hf n) r) n).2)
def cutOp (S : sp_S) (v n : Nat) : sp_S := addV (cutT S v n).2 (some v) n (cutT S v n).1 (s_nn S) (pE S (some v) n)
