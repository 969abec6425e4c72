/-! regular trees cut and grown; versions of regular trees -/
theorem Reg_ctP {S : sp_S} (hnn : s_nn S + 4 < 2 ^ 31) : ∀ {h n k len : Nat} {e : Nat → Int32}, h ≤ 4 → Reg S h k n e → 1 ≤ len → len ≤ n → Reg (ctP S h k len).2 h (ctP S h k len).1 len e := by
  intro h
  induction h with
  | zero => intro n k len e _ g _ _; exact g.elim
  | succ h ih =>
    intro n k len e hh g hl hn
    have hcu := g.cuT hl hn
    have hhg := g.hgt
    obtain ⟨g1, g2, ⟨g3, g3b, g3c⟩, g4, g5, g6⟩ := id g
    by_cases heq : eU S (h + 1) k = len
    · rw [ctP_same heq]
      have : n = len := (g.eU).symm.trans heq
      subst this; exact g
    · obtain ⟨q1, q2⟩ := hcu.2.resolve_left heq
      by_cases hz : h = 0
      · subst hz
        rw [ctP_1 heq]
        obtain ⟨e1, e2, e3, e4⟩ := addN_new (S := S) (b := true) (c := len) (e := s_ent S k)
        refine ⟨Nat.lt_succ_self _, e1, ⟨hl, Nat.le_trans hn g3b, ?_⟩, ?_, fun _ i hi => ?_, fun z => absurd rfl z⟩
        · rw [e3, Nat.pow_zero, Nat.div_one]; omega
        · rw [e2]; simp
        · rw [e4]; exact g5 rfl i (by omega)
      · rw [ctP_s heq hz]
        have hb := p4_pos h
        obtain ⟨d1, d2⟩ := dm (len - 1) (4 ^ h) hb
        have hgk := hhg.2.2 hz _ q1
        obtain ⟨x1, x2, x3⟩ := ctP_ex hgk (q2 hz)
        have hch := g6 hz _ q1
        have hih := ih (len := (len - 1) % 4 ^ h + 1) (by omega) hch (by omega) (by omega)
        generalize hpp : (len - 1) / 4 ^ h = pp at *
        generalize hmm : (len - 1) % 4 ^ h = mm at *
        generalize hT : (ctP S h (s_chd S k pp) (mm + 1)).2 = T at *
        generalize hC : (ctP S h (s_chd S k pp) (mm + 1)).1 = C at *
        obtain ⟨e1, e2, e3, e4⟩ := addN_new (S := T) (b := false) (c := pp + 1) (e := fun i => if i = pp then nI C else s_ent S k i)
        have hE : exN T (addN T false (pp + 1) (fun i => if i = pp then nI C else s_ent S k i)) := exN.addN
        refine ⟨Nat.lt_succ_self _, e1, ⟨hl, by omega, by rw [e3, hpp]⟩, ?_, fun z => absurd z hz, fun _ i hi => ?_⟩
        · rw [e2]; simp [hz]
        · rw [e3] at hi
          have he : s_chd (addN T false (pp + 1) (fun i => if i = pp then nI C else s_ent S k i)) (s_nn T) i = (if i = pp then nI C else s_ent S k i).toNatClampNeg := by
            unfold s_chd; rw [e4]
          rw [he]
          by_cases z : i = pp
          · rw [if_pos z, nI_clamp (by omega), z]
            exact (hE.reg hih).cast (by omega) (fun j _ => rfl)
          · rw [if_neg z]
            have h2 : i * 4 ^ h + 4 ^ h ≤ pp * 4 ^ h := by
              have := Nat.mul_le_mul_right (4 ^ h) (show i + 1 ≤ pp by omega)
              rw [Nat.succ_mul] at this; exact this
            exact (hE.reg (x1.reg (g6 hz i (by omega)))).cast (by omega) (fun j _ => rfl)
theorem Reg.first {S : sp_S} {h k n : Nat} {e : Nat → Int32} (g : Reg S (h + 1) k n e) (hz : h ≠ 0) : Reg S h (s_chd S k 0) (min (4 ^ h) n) e := by
  have h1 := g.2.2.1.2.2
  exact (g.2.2.2.2.2 hz 0 (by rw [h1]; exact Nat.succ_pos _)).cast (by rw [Nat.zero_mul, Nat.sub_zero]) (fun j _ => by rw [Nat.zero_mul, Nat.zero_add])
theorem fst_reg {S : sp_S} {h k n : Nat} {e : Nat → Int32} (g : Reg S h k n e) : ∀ {d : Nat}, d < h → Reg S (h - d) (fst S d k) (min (4 ^ (h - d)) n) e := by
  intro d
  induction d with
  | zero =>
    intro hd
    have h1 : n ≤ 4 ^ h := by
      cases h with
      | zero => exact g.elim
      | succ h => rw [Nat.pow_succ]; exact g.2.2.1.2.1
    exact g.cast (by rw [Nat.sub_zero]; omega) (fun j _ => rfl)
  | succ d ih =>
    intro hd
    have h1 := ih (by omega)
    rw [show h - d = (h - (d + 1)) + 1 by omega] at h1
    refine (h1.first (by omega)).cast ?_ (fun j _ => rfl)
    have := Nat.pow_le_pow_right (n := 4) (by decide) (show h - (d + 1) ≤ h - (d + 1) + 1 by omega)
    omega
theorem Reg_grow {S T : sp_S} {h k cc : Nat} {e e' : Nat → Int32} {its : Int32} (hnn : s_nn T < 2 ^ 31) (g : Reg S (h + 1) k (4 ^ (h + 1)) e) (x1 : exN S T) (hC : Reg T (h + 1) cc 1 (upd e' 0 its)) : Reg (addN T false 2 (fun i => if i = 0 then nI k else nI cc)) (h + 2) (s_nn T) (4 ^ (h + 1) + 1) (upd e (4 ^ (h + 1)) its) := by
  have hb := p4_pos (h + 1)
  obtain ⟨e1, e2, e3, e4⟩ := addN_new (S := T) (b := false) (c := 2) (e := fun i => if i = 0 then nI k else nI cc)
  have hE : exN T (addN T false 2 (fun i => if i = 0 then nI k else nI cc)) := exN.addN
  have hk := (x1.reg g).lt
  have hc := hC.lt
  refine ⟨Nat.lt_succ_self _, e1, ⟨by omega, by omega, ?_⟩, ?_, fun z => absurd z (Nat.succ_ne_zero _), fun _ i hi => ?_⟩
  · rw [e3, Nat.add_sub_cancel, Nat.div_self hb]
  · rw [e2]; simp
  · rw [e3] at hi
    have he : s_chd (addN T false 2 (fun i => if i = 0 then nI k else nI cc)) (s_nn T) i = (if i = 0 then nI k else nI cc).toNatClampNeg := by
      unfold s_chd; rw [e4]
    rw [he]
    by_cases z : i = 0
    · rw [if_pos z, nI_clamp (by omega), z]
      refine (hE.reg (x1.reg g)).cast (by rw [Nat.zero_mul]; omega) (fun j hj => ?_)
      rw [Nat.zero_mul, Nat.zero_add]
      exact (pk_un (by omega)).symm
    · have : i = 1 := by omega
      subst this
      rw [if_neg (by decide), nI_clamp (by omega)]
      refine (hE.reg hC).cast (by rw [Nat.one_mul]; omega) (fun j hj => ?_)
      rw [Nat.one_mul] at hj ⊢
      have : j = 0 := by omega
      subst this
      rw [Nat.add_zero]
      exact pk_us.trans pk_us.symm
/-- a version's tree is regular, and has the version's elements -/
def RgV (S : sp_S) (v : Nat) : Prop := RegO S (hf (s_len S v)) (s_root S v) (s_len S v) (s_els S v)
def RG (S : sp_S) : Prop := ∀ v, v < s_nv S → s_rel S v = false → RgV S v
theorem hf_pos {n : Nat} (h : n ≠ 0) : hf n = hf n - 1 + 1 := by
  have : 1 ≤ hf n := by unfold hf; rw [if_neg h]; split; exact Nat.le_refl _; split <;> decide
  omega
theorem hf_p4 {n : Nat} (h : n ≤ 64) : n ≤ 4 ^ hf n := by
  unfold hf
  split
  · omega
  · split
    · show n ≤ 4; assumption
    · split
      · show n ≤ 16; assumption
      · exact h
theorem RG.hg {S : sp_S} (h : RG S) : HG S := by
  intro v hv hl r hr
  have g := h v hv hl
  unfold RgV at g
  rw [hr] at g
  exact Reg.hgt g
theorem RgV.none {S : sp_S} {v : Nat} (g : RgV S v) (h : s_len S v = 0) : s_root S v = none := by
  unfold RgV at g
  cases hr : s_root S v with
  | none => rfl
  | some r =>
    rw [hr] at g
    have := Reg.one (show Reg S _ r _ _ from g)
    omega
theorem RgV.some {S : sp_S} {v : Nat} (g : RgV S v) (h : s_len S v ≠ 0) : ∃ r, s_root S v = some r ∧ Reg S (hf (s_len S v)) r (s_len S v) (s_els S v) := by
  unfold RgV at g
  cases hr : s_root S v with
  | none => rw [hr] at g; exact absurd g h
  | some r => rw [hr] at g; exact ⟨r, rfl, g⟩
theorem hf_le' {n m : Nat} (h : n ≤ m) : hf n ≤ hf m := by
  unfold hf; repeat' split
  all_goals omega
theorem hf_app {n : Nat} (h0 : n ≠ 0) (h : n < 4 ^ hf n) : hf (n + 1) = hf n := by
  unfold hf at h ⊢
  rw [if_neg h0] at h ⊢
  rw [if_neg (Nat.succ_ne_zero _)]
  by_cases h1 : n ≤ 4
  · rw [if_pos h1] at h ⊢
    rw [if_pos (show n + 1 ≤ 4 from h)]
  · rw [if_neg h1] at h ⊢
    rw [if_neg (by omega)]
    by_cases h2 : n ≤ 16
    · rw [if_pos h2] at h ⊢
      rw [if_pos (show n + 1 ≤ 16 from h)]
    · rw [if_neg h2, if_neg (by omega)]
theorem hf_gro {n : Nat} (h0 : n ≠ 0) (h : n = 4 ^ hf n) (h64 : n < 64) : hf (n + 1) = hf n + 1 ∧ hf n ≤ 2 := by
  unfold hf at h ⊢
  rw [if_neg h0] at h ⊢
  rw [if_neg (Nat.succ_ne_zero _)]
  by_cases h1 : n ≤ 4
  · rw [if_pos h1] at h ⊢
    have : n = 4 := h
    subst this; decide
  · rw [if_neg h1] at h ⊢
    by_cases h2 : n ≤ 16
    · rw [if_pos h2] at h ⊢
      have : n = 16 := h
      subst this; decide
    · rw [if_neg h2] at h
      have : n = 64 := h
      omega
theorem pE_ex {S T : sp_S} (h : exN S T) (par : Option Nat) (len : Nat) : pE T par len = pE S par len := by
  funext i
  cases par with
  | none => rfl
  | some q =>
    obtain ⟨h1, -, -, -, -, h6⟩ := h.ver q
    show (if i < min len (s_len T q) then s_els T q i else 0) = _
    rw [h1, h6]; rfl
theorem setOp_same {S : sp_S} {v idx : Nat} {its : Int32} (h : s_els S v idx = its) : setOp S v idx its = addV S (some v) (s_len S v) (s_root S v) (s_nn S) (upd (pE S (some v) (s_len S v)) idx its) := by
  unfold setOp setT; rw [if_pos h]
theorem setOp_diff {S T : sp_S} {v idx : Nat} {its : Int32} (h : s_els S v idx ≠ its) (hT : T = (cpy S (hf (s_len S v)) (s_root S v) idx its).2) (hE : exN S T) : addV T (some v) (s_len S v) (some (cpy S (hf (s_len S v)) (s_root S v) idx its).1) (s_nn S) (upd (pE T (some v) (s_len S v)) idx its) = setOp S v idx its := by
  rw [pE_ex hE]
  unfold setOp setT; rw [if_neg h, hT]
theorem appOp_eq {S T : sp_S} {v : Nat} {its : Int32} (hT : T = (appT S v its).2) (hE : exN S T) : addV T (some v) (s_len S v + 1) (some (appT S v its).1) (s_nn S) (upd (pE T (some v) (s_len S v + 1)) (s_len S v) its) = appOp S v its := by
  rw [pE_ex hE, hT]; rfl
theorem cutOp_eq {S T : sp_S} {v n : Nat} (hT : T = (cutT S v n).2) (hE : exN S T) : addV T (some v) n (cutT S v n).1 (s_nn S) (pE T (some v) n) = cutOp S v n := by
  rw [pE_ex hE, hT]; rfl
theorem appT_0 {S : sp_S} {v : Nat} {its : Int32} (h : s_len S v = 0) : appT S v its = cpy S 1 none 0 its := if_pos h
theorem appT_1 {S : sp_S} {v : Nat} {its : Int32} (h : s_len S v ≠ 0) (h2 : s_len S v < 4 ^ hf (s_len S v)) : appT S v its = cpy S (hf (s_len S v)) (s_root S v) (s_len S v) its := (if_neg h).trans (if_pos h2)
theorem appT_2 {S : sp_S} {v : Nat} {its : Int32} (h : s_len S v ≠ 0) (h2 : ¬ s_len S v < 4 ^ hf (s_len S v)) : appT S v its = (s_nn (cpy S (hf (s_len S v)) none 0 its).2, addN (cpy S (hf (s_len S v)) none 0 its).2 false 2 (fun i => if i = 0 then oI (s_root S v) else nI (cpy S (hf (s_len S v)) none 0 its).1)) := (if_neg h).trans (if_neg h2)
theorem cutT_0 {S : sp_S} {v n : Nat} (h : n = 0) : cutT S v n = (none, S) := by
  unfold cutT; split
  · rfl
  · exact if_pos h
theorem cutT_1 {S : sp_S} {v n r : Nat} (h : n ≠ 0) (hr : s_root S v = some r) : cutT S v n = (some (ctP S (hf n) (fst S (hf (s_len S v) - hf n) r) n).1, (ctP S (hf n) (fst S (hf (s_len S v) - hf n) r) n).2) := by
  unfold cutT; rw [hr]; exact if_neg h
theorem pow_lt_hf {n : Nat} (h0 : n ≠ 0) : hf n - 1 + 1 = hf n := (hf_pos h0).symm
theorem exT_0 {S : sp_S} : ∀ h, exT S (h + 1) none 0 := by
  intro h
  induction h with
  | zero => exact ⟨by decide, by rw [Nat.zero_div]; exact Nat.zero_le _, Nat.zero_le _, fun z => absurd rfl z⟩
  | succ h ih =>
    refine ⟨?_, ?_, ?_, fun _ => ?_⟩
    · rw [Nat.zero_div]; decide
    · rw [Nat.zero_div]; exact Nat.zero_le _
    · exact Nat.zero_le _
    · rw [Nat.zero_mod]; exact ih
theorem RgO_none {S : sp_S} {h : Nat} {e : Nat → Int32} : RegO S h none 0 e := rfl
theorem hhg_lt {S : sp_S} : ∀ {h k : Nat}, Hgt S h k → k < s_nn S := by
  intro h
  cases h with
  | zero => intro k g; exact g.elim
  | succ h => intro k g; exact g.1
/-- what the making of versions keeps -/
theorem setT_ex {S : sp_S} {v idx : Nat} {its : Int32} (hW : WF S) (g : RgV S v) (hi : idx < s_len S v) (hl : s_len S v ≤ 64) (hn : s_nn S + 4 ≤ 190) : exN S (setT S v idx its).2 ∧ s_nn (setT S v idx its).2 ≤ s_nn S + 3 ∧ WF (setT S v idx its).2 ∧ RegO (setT S v idx its).2 (hf (s_len S v)) (setT S v idx its).1 (s_len S v) (upd (s_els S v) idx its) := by
  unfold setT
  by_cases z : s_els S v idx = its
  · rw [if_pos z]
    refine ⟨exN.rf, Nat.le_add_right _ _, hW, ?_⟩
    have e : upd (s_els S v) idx its = s_els S v := by
      funext j
      by_cases y : j = idx
      · rw [y]; exact pk_us.trans z.symm
      · exact pk_un y
    rw [e]; exact g
  · rw [if_neg z]
    have h3 := hf_le (s_len S v)
    have hp := hf_pos (show s_len S v ≠ 0 by omega)
    have h64 := hf_p4 hl
    obtain ⟨r, hr, hreg⟩ := g.some (by omega)
    have hhg := hreg.hgt
    have hin := hreg.inT hi
    have g' := g
    unfold RgV at g'
    obtain ⟨x1, x2, -⟩ := cpy_ex S its (hf (s_len S v)) (s_root S v) idx
    refine ⟨x1, by show s_nn (cpy S _ _ _ its).2 ≤ _; omega, cpy_WF hW its (fun r' hr' => by rw [hr] at hr'; cases hr'; exact hhg) (by rw [hr]; exact hin.pa hW hhg) (by omega), ?_⟩
    rw [hp] at g' ⊢
    rw [← hp] at g'
    have h5 := Reg_cpy (S := S) (by omega) its (h := hf (s_len S v) - 1) (n := s_len S v) (idx := idx) (o := s_root S v) (e := s_els S v) (by omega) (by rw [← hp]; exact g') (by omega) (by rw [← hp]; exact h64) (by rw [← hp]; omega)
    rw [← hp] at h5 ⊢
    exact h5.cast (by omega) (fun _ _ => rfl)
theorem appT_ex {S : sp_S} {v : Nat} {its : Int32} (hW : WF S) (g : RgV S v) (hl : s_len S v < 64) (hn : s_nn S + 4 ≤ 190) : exN S (appT S v its).2 ∧ s_nn (appT S v its).2 ≤ s_nn S + 3 ∧ WF (appT S v its).2 ∧ Reg (appT S v its).2 (hf (s_len S v + 1)) (appT S v its).1 (s_len S v + 1) (upd (s_els S v) (s_len S v) its) := by
  have h3 := hf_le (s_len S v)
  have h64 := hf_p4 (show s_len S v ≤ 64 by omega)
  by_cases z : s_len S v = 0
  · rw [appT_0 z]
    obtain ⟨x1, x2, -⟩ := cpy_ex S its 1 none 0
    refine ⟨x1, by omega, cpy_WF hW its (fun r' hr' => by cases hr') (exT_0 0).pa (by omega), ?_⟩
    have h5 := Reg_cpy (S := S) (by omega) its (h := 0) (n := 0) (idx := 0) (o := none) (e := s_els S v) (by omega) rfl (Nat.le_refl _) (Nat.zero_le _) (by decide)
    rw [z]
    exact h5
  · have hp := hf_pos z
    obtain ⟨r, hr, hreg⟩ := g.some z
    have hhg := hreg.hgt
    have g' := g
    unfold RgV at g'
    by_cases y : s_len S v < 4 ^ hf (s_len S v)
    · rw [appT_1 z y, hf_app z y]
      obtain ⟨x1, x2, -⟩ := cpy_ex S its (hf (s_len S v)) (s_root S v) (s_len S v)
      have hex : exT S (hf (s_len S v)) (s_root S v) (s_len S v) := by
        rw [hp]; rw [hp] at y; rw [hp] at g'
        rw [← hp] at y
        exact RegO.exT (by rw [← hp] at g'; exact (by rw [hp] at g'; rw [← hp] at g'; rw [← hp]; exact g')) (by rw [← hp]; exact y)
      refine ⟨x1, by omega, cpy_WF hW its (fun r' hr' => by rw [hr] at hr'; cases hr'; exact hhg) hex.pa (by omega), ?_⟩
      have h5 := Reg_cpy (S := S) (by omega) its (h := hf (s_len S v) - 1) (n := s_len S v) (idx := s_len S v) (o := s_root S v) (e := s_els S v) (by omega) (by rw [← hp]; exact g') (by omega) (by rw [← hp]; exact h64) (by rw [← hp]; omega)
      rw [← hp] at h5
      exact h5.cast (by omega) (fun _ _ => rfl)
    · have hful : s_len S v = 4 ^ hf (s_len S v) := by omega
      obtain ⟨hg1, hg2⟩ := hf_gro z hful hl
      rw [appT_2 z y, hg1]
      obtain ⟨x1, x2, x3⟩ := cpy_ex S its (hf (s_len S v)) none 0
      have x4 := x3 (by omega)
      have hWc : WF (cpy S (hf (s_len S v)) none 0 its).2 := cpy_WF hW its (fun r' hr' => by cases hr') (by rw [hp]; exact (exT_0 _).pa) (by omega)
      have hrl : r < s_nn S := hhg_lt hhg
      refine ⟨x1.tr exN.addN, by show s_nn (cpy S _ _ _ its).2 + 1 ≤ _; omega, WF_addN hWc (by omega) (by decide) (fun _ i hi => ?_), ?_⟩
      · by_cases q : i = 0
        · rw [if_pos q, hr]; exact ⟨r, by omega, rfl⟩
        · rw [if_neg q]; exact ⟨_, by omega, rfl⟩
      · have h5 := Reg_cpy (S := S) (by omega) its (h := hf (s_len S v) - 1) (n := 0) (idx := 0) (o := none) (e := s_els S v) (by omega) rfl (Nat.le_refl _) (Nat.zero_le _) (p4_pos _)
        rw [← hp] at h5
        have h6 := h5.cast (n' := 1) (by omega) (e' := upd (s_els S v) 0 its) (fun _ _ => rfl)
        have hreg2 := hreg.cast hful (e' := s_els S v) (fun _ _ => rfl)
        have h7 := Reg_grow (S := S) (T := (cpy S (hf (s_len S v)) none 0 its).2) (h := hf (s_len S v) - 1) (k := r) (cc := (cpy S (hf (s_len S v)) none 0 its).1) (e := s_els S v) (e' := s_els S v) (its := its) (by omega) (by rw [← hp]; exact hreg2) x1 (by rw [← hp]; exact h6)
        rw [show hf (s_len S v) - 1 + 2 = hf (s_len S v) + 1 by omega, ← hp, ← hful, show (fun i => if i = 0 then nI r else nI (cpy S (hf (s_len S v)) none 0 its).1) = (fun i => if i = 0 then oI (s_root S v) else nI (cpy S (hf (s_len S v)) none 0 its).1) by rw [hr]; rfl] at h7
        exact h7
theorem fst_at {S : sp_S} {v n r : Nat} (g : Reg S (hf (s_len S v)) r (s_len S v) (s_els S v)) (h0 : n ≠ 0) (hn : n ≤ s_len S v) : Reg S (hf n) (fst S (hf (s_len S v) - hf n) r) (min (4 ^ hf n) (s_len S v)) (s_els S v) := by
  have h1 := hf_le' hn
  have h2 := hf_pos h0
  have h3 := fst_reg g (d := hf (s_len S v) - hf n) (by omega)
  rw [show hf (s_len S v) - (hf (s_len S v) - hf n) = hf n by omega] at h3
  exact h3
theorem cutT_ex {S : sp_S} {v n : Nat} (hW : WF S) (g : RgV S v) (hn : n ≤ s_len S v) (hl : s_len S v ≤ 64) (hnn : s_nn S + 4 ≤ 190) : exN S (cutT S v n).2 ∧ s_nn (cutT S v n).2 ≤ s_nn S + 3 ∧ WF (cutT S v n).2 ∧ RegO (cutT S v n).2 (hf n) (cutT S v n).1 n (s_els S v) := by
  by_cases z : n = 0
  · rw [cutT_0 z]
    exact ⟨exN.rf, Nat.le_add_right _ _, hW, z⟩
  · obtain ⟨r, hr, hreg⟩ := g.some (by omega)
    have h3 := fst_at hreg z hn
    have h4 := hf_p4 (show n ≤ 64 by omega)
    have h5 := hf_le n
    have h6 := h3.cuT (len := n) (by omega) (by omega)
    obtain ⟨x1, x2, -⟩ := ctP_ex h3.hgt h6
    rw [cutT_1 z hr]
    refine ⟨x1, by show s_nn (ctP S _ _ n).2 ≤ _; omega, ctP_WF hW h3.hgt h6 (by omega), ?_⟩
    exact Reg_ctP (by omega) (by omega) h3 (by omega) (by omega)
theorem regO_exT {S : sp_S} {h n : Nat} {o : Option Nat} {e : Nat → Int32} (g : RegO S h o n e) (hp : h = h - 1 + 1) (hn : n < 4 ^ h) : exT S h o n := by
  obtain ⟨k, rfl⟩ : ∃ k, h = k + 1 := ⟨_, hp⟩
  exact RegO.exT g hn
theorem gr_e {F : Nat → Nat → Int32} {a b : Int32} {i : Nat} (hi : i < 2) : tw_u (tw_u F 7 0 a) 7 1 b 7 i = if i = 0 then a else b := by
  rw [tw_us]
  by_cases z : i = 0
  · rw [if_pos z, pk_un (by omega), tw_us, z]; exact pk_us
  · have : i = 1 := by omega
    rw [if_neg z, this]; exact pk_us
theorem fst_inner {S : sp_S} {h k n d : Nat} {e : Nat → Int32} (g : Reg S h k n e) (hd : d + 1 < h) : s_leaf S (fst S d k) = false ∧ 0 < s_cnt S (fst S d k) := by
  have h1 := fst_reg g (d := d) (by omega)
  rw [show h - d = (h - d - 2 + 1) + 1 by omega] at h1
  refine ⟨?_, by rw [h1.2.2.1.2.2]; exact Nat.succ_pos _⟩
  cases z : s_leaf S (fst S d k) with
  | false => rfl
  | true => exact absurd (h1.2.2.2.1.mp z) (Nat.succ_ne_zero _)
