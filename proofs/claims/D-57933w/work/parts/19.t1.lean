/-! ancestors -/
def parI (S : sp_S) : Nat → Nat → Option Nat
  | 0, v => some v
  | n + 1, v => match s_par S v with
    | none => none
    | some p => parI S n p
def anc (S : sp_S) (u v : Nat) : Prop := ∃ n, parI S n v = some u
/-- only version 0 has no parent -/
def VT (S : sp_S) : Prop := 1 ≤ s_nv S ∧ ∀ v, v < s_nv S → (s_par S v = none ↔ v = 0)
theorem anc_rf (S : sp_S) (v : Nat) : anc S v v := ⟨0, rfl⟩
theorem anc_st {S : sp_S} {v p : Nat} (h : s_par S v = some p) (u : Nat) : anc S u v ↔ u = v ∨ anc S u p := by
  refine ⟨fun ⟨n, hn⟩ => ?_, fun g => ?_⟩
  · cases n with
    | zero => exact .inl (Option.some.inj hn).symm
    | succ n =>
      unfold parI at hn; rw [h] at hn
      exact .inr ⟨n, hn⟩
  · rcases g with g | ⟨n, hn⟩
    · rw [g]; exact anc_rf S v
    · refine ⟨n + 1, ?_⟩
      unfold parI; rw [h]; exact hn
theorem anc_nt {S : sp_S} {v : Nat} (h : s_par S v = none) (u : Nat) : anc S u v ↔ u = v := by
  refine ⟨fun ⟨n, hn⟩ => ?_, fun g => by rw [g]; exact anc_rf S v⟩
  cases n with
  | zero => exact (Option.some.inj hn).symm
  | succ n => unfold parI at hn; rw [h] at hn; cases hn
theorem dO_f {S : sp_S} (hW : WF S) : ∀ {n m : Nat} {o : Option Nat}, (∀ p, o = some p → p < n ∧ p < m ∧ p < s_nv S) → dO S n o = dO S m o := by
  intro n
  induction n with
  | zero =>
    intro m o h
    cases o with
    | none => cases m <;> rfl
    | some p => exact absurd (h p rfl).1 (Nat.not_lt_zero _)
  | succ n ih =>
    intro m o h
    cases o with
    | none => cases m <;> rfl
    | some p =>
      obtain ⟨h1, h2, h3⟩ := h p rfl
      obtain ⟨m, rfl⟩ : ∃ k, m = k + 1 := ⟨m - 1, by omega⟩
      show dO S n (s_par S p) + 1 = dO S m (s_par S p) + 1
      rw [ih (m := m) (fun q hq => by have := hW.par h3 hq; omega)]
theorem dep_s {S : sp_S} (hW : WF S) {v p : Nat} (hv : v < s_nv S) (h : s_par S v = some p) : dep S v = dep S p + 1 := by
  have h1 := hW.par hv h
  have h2 := hW.nv
  unfold dep
  rw [h]
  show dO S 39 (s_par S p) + 1 = _
  rw [dO_f hW (m := 40) (fun q hq => by have := hW.par (show p < s_nv S by omega) hq; omega)]
theorem dep_n {S : sp_S} {v : Nat} (h : s_par S v = none) : dep S v = 0 := by unfold dep; rw [h]; rfl
theorem anc_le {S : sp_S} (hW : WF S) {u : Nat} : ∀ {v : Nat}, v < s_nv S → anc S u v → u ≤ v ∧ (u ≠ v → dep S u < dep S v) := by
  intro v
  induction v using Nat.strongRecOn with
  | ind v ih =>
    intro hv g
    cases hp : s_par S v with
    | none => rw [(anc_nt hp u).mp g]; exact ⟨Nat.le_refl _, fun z => absurd rfl z⟩
    | some p =>
      have h1 := hW.par hv hp
      rcases (anc_st hp u).mp g with e | e
      · rw [e]; exact ⟨Nat.le_refl _, fun z => absurd rfl z⟩
      · obtain ⟨h2, h3⟩ := ih p h1 (by omega) e
        refine ⟨by omega, fun _ => ?_⟩
        rw [dep_s hW hv hp]
        by_cases z : u = p
        · rw [z]; omega
        · have := h3 z; omega
/-- g is the nearest common ancestor -/
def isG (S : sp_S) (a b g : Nat) : Prop := (anc S g a ∧ anc S g b) ∧ ∀ u, anc S u a → anc S u b → anc S u g
theorem isG_u {S : sp_S} (hW : WF S) {a b g k : Nat} (ha : a < s_nv S) (h1 : isG S a b g) (h2 : isG S a b k) : g = k := by
  have hg := (anc_le hW ha h1.1.1).1
  have hk := (anc_le hW ha h2.1.1).1
  have e1 := (anc_le hW (show k < s_nv S by omega) (h2.2 g h1.1.1 h1.1.2)).1
  have e2 := (anc_le hW (show g < s_nv S by omega) (h1.2 k h2.1.1 h2.1.2)).1
  omega
theorem ca_step {S : sp_S} {a b p : Nat} (hn : ¬ anc S a b) (hp : s_par S a = some p) (u : Nat) : (anc S u p ∧ anc S u b) ↔ (anc S u a ∧ anc S u b) := by
  refine ⟨fun ⟨h1, h2⟩ => ⟨(anc_st hp u).mpr (.inr h1), h2⟩, fun ⟨h1, h2⟩ => ⟨?_, h2⟩⟩
  rcases (anc_st hp u).mp h1 with e | e
  · rw [e] at h2; exact absurd h2 hn
  · exact e
theorem isG_of {S : sp_S} {a b g : Nat} (h : ∀ u, (anc S u g ∧ anc S u g) ↔ (anc S u a ∧ anc S u b)) : isG S a b g :=
  ⟨(h g).mp ⟨anc_rf S g, anc_rf S g⟩, fun u h1 h2 => ((h u).mpr ⟨h1, h2⟩).1⟩
/-- the component's search -/
def caN (S : sp_S) : Nat → Nat → Nat → Nat
  | 0, a, _ => a
  | n + 1, a, b => if a = b then a else if b < a then caN S n ((s_par S a).getD 0) b else caN S n a ((s_par S b).getD 0)
theorem VT.par {S : sp_S} (h : VT S) {v : Nat} (hv : v < s_nv S) (h0 : v ≠ 0) : ∃ p, s_par S v = some p := by
  cases hp : s_par S v with
  | none => exact absurd ((h.2 v hv).mp hp) h0
  | some p => exact ⟨p, rfl⟩
theorem caN_G {S : sp_S} (hW : WF S) (hV : VT S) : ∀ {n a b : Nat}, a + b < n → a < s_nv S → b < s_nv S → isG S a b (caN S n a b) := by
  intro n
  induction n with
  | zero => intro a b h _ _; exact absurd h (Nat.not_lt_zero _)
  | succ n ih =>
    intro a b h ha hb
    unfold caN
    by_cases e : a = b
    · rw [if_pos e]; exact ⟨⟨anc_rf S a, by rw [← e]; exact anc_rf S a⟩, fun u h1 _ => h1⟩
    · rw [if_neg e]
      by_cases l : b < a
      · rw [if_pos l]
        obtain ⟨p, hp⟩ := hV.par ha (by omega)
        have hpa := hW.par ha hp
        rw [hp]
        have g := ih (a := p) (b := b) (by omega) (by omega) hb
        have hs := ca_step (b := b) (fun z => by have := (anc_le hW hb z).1; omega) hp
        exact ⟨(hs _).mp g.1, fun u h1 h2 => g.2 u ((hs u).mpr ⟨h1, h2⟩).1 h2⟩
      · rw [if_neg l]
        obtain ⟨p, hp⟩ := hV.par hb (by omega)
        have hpa := hW.par hb hp
        rw [hp]
        have g := ih (a := a) (b := p) (by omega) ha (by omega)
        have hs := ca_step (b := a) (fun z => by have := (anc_le hW ha z).1; omega) hp
        exact ⟨((hs _).mp ⟨g.1.2, g.1.1⟩).symm, fun u h1 h2 => g.2 u h1 ((hs u).mpr ⟨h2, h1⟩).1⟩
def caF (S : sp_S) (a b : Nat) : Nat := caN S 100 a b
theorem caF_eq {S : sp_S} (hW : WF S) (hV : VT S) {a b g : Nat} (ha : a < s_nv S) (hb : b < s_nv S) (h : ∀ u, (anc S u g ∧ anc S u g) ↔ (anc S u a ∧ anc S u b)) : g = caF S a b :=
  isG_u hW ha (isG_of h) (caN_G hW hV (by have := hW.nv; omega) ha hb)
theorem ca_twin {S : sp_S} (hW : WF S) (hV : VT S) {a b : Nat} (ha : a < s_nv S) (hb : b < s_nv S) (hne : a ≠ b) (hd : dep S b ≤ dep S a) : ∃ p, s_par S a = some p ∧ p < a ∧ ∀ u, (anc S u p ∧ anc S u b) ↔ (anc S u a ∧ anc S u b) := by
  have h0 : a ≠ 0 := by
    intro z
    have e1 := dep_n ((hV.2 a ha).mpr z)
    rcases Nat.eq_zero_or_pos b with y | y
    · omega
    · obtain ⟨p, hp⟩ := hV.par hb (by omega)
      have := dep_s hW hb hp
      omega
  obtain ⟨p, hp⟩ := hV.par ha h0
  exact ⟨p, hp, hW.par ha hp, ca_step (fun z => by have := (anc_le hW hb z).2 hne; omega) hp⟩
theorem and_sw {P Q R T : Prop} (h : (P ∧ Q) ↔ (R ∧ T)) : (Q ∧ P) ↔ (T ∧ R) := ⟨fun z => (h.mp z.symm).symm, fun z => (h.mpr z.symm).symm⟩
/-- values that are allowed -/
def inV (x : Int32) : Bool := decide (-999 ≤ x.toInt ∧ x.toInt ≤ 999)
theorem w_inV (x : Int32) : decide ((-999 : Int64) ≤ x.toInt64 ∧ x.toInt64 ≤ (999 : Int64)) = inV x := by
  unfold inV
  congr 1
  apply propext
  rw [show (-999 : Int64) = ((-999 : Int32)).toInt64 from rfl, show (999 : Int64) = ((999 : Int32)).toInt64 from rfl, l64_le, l64_le]
  rfl
def fcs (S : sp_S) (x y z : Int32) : Bool := hasE S x y && inV z && !s_rel S x.toNatClampNeg
theorem dO_le (S : sp_S) : ∀ (n : Nat) (o : Option Nat), dO S n o ≤ n := by
  intro n
  induction n with
  | zero => intro o; exact Nat.le_refl _
  | succ n ih =>
    intro o
    cases o with
    | none => exact Nat.zero_le _
    | some p => exact Nat.succ_le_succ (ih _)
theorem dep_le (S : sp_S) (v : Nat) : dep S v ≤ 40 := dO_le S 40 _
theorem TR_cg {f g : Nat → Int32} {S : sp_S} (hR : TR f S) (hW : WF S) (h : ∀ j, j < 4210 → g j = f j) : TR g S := by
  have h1 := hW.nv
  have h2 := hW.nn
  refine ⟨(h 0 (by omega)).trans hR.nv, (h 1 (by omega)).trans hR.nn, fun v hv => ?_, fun k hk => ?_⟩
  · have hlv := hW.len hv
    exact ⟨(h _ (by omega)).trans (hR.len hv), (h _ (by omega)).trans (hR.root hv), (h _ (by omega)).trans (hR.hgt hv), (h _ (by omega)).trans (hR.par hv), (h _ (by omega)).trans (hR.rel hv), (h _ (by omega)).trans (hR.cre hv), fun i hi => (h _ (by omega)).trans (hR.els hv hi)⟩
  · have hck := hW.cnt hk
    exact ⟨(h _ (by omega)).trans (hR.leaf hk), (h _ (by omega)).trans (hR.cnt hk), fun i hi => (h _ (by omega)).trans (hR.ent hk hi), (h _ (by omega)).trans (hR.sto hk)⟩
def room (S : sp_S) : Bool := decide (s_nv S < 40)
def fcS (S : sp_S) (x y z : Int32) : Bool := hasE S x y && inV z && !s_rel S x.toNatClampNeg && room S
def apC (S : sp_S) (x : Int32) : Bool := isLv S x && decide (s_len S x.toNatClampNeg < 64) && room S
def apD (S : sp_S) (x z : Int32) : Bool := inV z && apC S x
def trF (S : sp_S) (x y : Int32) : Bool := inR x (s_nv S) && decide (¬ y < 0) && (s_rel S x.toNatClampNeg || inR y (s_len S x.toNatClampNeg + 1))
def trC (S : sp_S) (x y : Int32) : Bool := trF S x y && !s_rel S x.toNatClampNeg && room S
theorem tr_in {y : Int32} {n : Nat} (h0 : ¬ y < 0) (hn : n < 2 ^ 30) (h : ¬ nI n < y) : inR y (n + 1) = true := by
  refine decide_eq_true ?_
  rw [Int32.not_lt, Int32.le_iff_toInt_le] at h0 h
  rw [nI_toInt (by omega)] at h
  exact ⟨h0, by omega⟩
theorem tr_nin {y : Int32} {n : Nat} (hn : n < 2 ^ 30) (h : nI n < y) : inR y (n + 1) = false := by
  refine decide_eq_false ?_
  rw [Int32.lt_iff_toInt_lt, nI_toInt (by omega)] at h
  omega
/-- a byte of a word -/
def bw (w : Int32) (q : Nat) : Int32 := (w >>> (nI (8 * (3 - q)) &&& 31)).toInt8.toInt32
theorem nar_byte (z : Int32) : vp_nar .byte z.toInt8.toInt32 = z.toInt8.toInt32 := by unfold vp_nar; rw [pk_nb]
theorem bw_old {F : Nat → Nat → Int32} {k : Nat} {a b c d : Int32} : ∀ j, j < k → tw_u (tw_u (tw_u (tw_u F 12 k a) 12 (k + 1) b) 12 (k + 2) c) 12 (k + 3) d 12 j = F 12 j := fun j hj => by
  rw [tw_us, pk_un (by omega), tw_us, pk_un (by omega), tw_us, pk_un (by omega), tw_us, pk_un (by omega)]
theorem bw_new {F : Nat → Nat → Int32} {k : Nat} {w : Int32} : ∀ q, q < 4 → tw_u (tw_u (tw_u (tw_u F 12 k (vp_nar .byte (bw w 0))) 12 (k + 1) (vp_nar .byte (bw w 1))) 12 (k + 2) (vp_nar .byte (bw w 2))) 12 (k + 3) (vp_nar .byte (bw w 3)) 12 (k + q) = bw w q := fun q hq => by
  have h : q = 0 ∨ q = 1 ∨ q = 2 ∨ q = 3 := by omega
  rcases h with rfl | rfl | rfl | rfl
  · rw [tw_us, pk_un (by omega), tw_us, pk_un (by omega), tw_us, pk_un (by omega), tw_us]; exact pk_us.trans (nar_byte _)
  · rw [tw_us, pk_un (by omega), tw_us, pk_un (by omega), tw_us]; exact pk_us.trans (nar_byte _)
  · rw [tw_us, pk_un (by omega), tw_us]; exact pk_us.trans (nar_byte _)
  · rw [tw_us]; exact pk_us.trans (nar_byte _)
def w5 (a b c d e : Int32) (i : Nat) : Int32 := if i = 0 then a else if i = 1 then b else if i = 2 then c else if i = 3 then d else e
theorem b5_old {F F1 F2 F3 F4 F5 : Nat → Nat → Int32} {k : Nat} (o1 : ∀ j, j < k → F1 12 j = F 12 j) (o2 : ∀ j, j < k + 4 → F2 12 j = F1 12 j) (o3 : ∀ j, j < k + 8 → F3 12 j = F2 12 j) (o4 : ∀ j, j < k + 12 → F4 12 j = F3 12 j) (o5 : ∀ j, j < k + 16 → F5 12 j = F4 12 j) : ∀ j, j < k → F5 12 j = F 12 j := fun j hj => by
  rw [o5 j (by omega), o4 j (by omega), o3 j (by omega), o2 j (by omega), o1 j hj]
theorem b5_new {F F1 F2 F3 F4 F5 : Nat → Nat → Int32} {k : Nat} {a b c d e : Int32} (_o1 : ∀ j, j < k → F1 12 j = F 12 j) (o2 : ∀ j, j < k + 4 → F2 12 j = F1 12 j) (o3 : ∀ j, j < k + 8 → F3 12 j = F2 12 j) (o4 : ∀ j, j < k + 12 → F4 12 j = F3 12 j) (o5 : ∀ j, j < k + 16 → F5 12 j = F4 12 j) (n1 : ∀ q, q < 4 → F1 12 (k + q) = bw a q) (n2 : ∀ q, q < 4 → F2 12 (k + 4 + q) = bw b q) (n3 : ∀ q, q < 4 → F3 12 (k + 8 + q) = bw c q) (n4 : ∀ q, q < 4 → F4 12 (k + 12 + q) = bw d q) (n5 : ∀ q, q < 4 → F5 12 (k + 16 + q) = bw e q) : ∀ q, q < 20 → F5 12 (k + q) = bw (w5 a b c d e (q / 4)) (q % 4) := fun q hq => by
  have h : q / 4 = 0 ∨ q / 4 = 1 ∨ q / 4 = 2 ∨ q / 4 = 3 ∨ q / 4 = 4 := by omega
  rcases h with h | h | h | h | h
  · rw [h, o5 _ (by omega), o4 _ (by omega), o3 _ (by omega), o2 _ (by omega), show k + q = k + q % 4 by omega]; exact n1 _ (by omega)
  · rw [h, o5 _ (by omega), o4 _ (by omega), o3 _ (by omega), show k + q = k + 4 + q % 4 by omega]; exact n2 _ (by omega)
  · rw [h, o5 _ (by omega), o4 _ (by omega), show k + q = k + 8 + q % 4 by omega]; exact n3 _ (by omega)
  · rw [h, o5 _ (by omega), show k + q = k + 12 + q % 4 by omega]; exact n4 _ (by omega)
  · rw [h, show k + q = k + 16 + q % 4 by omega]; exact n5 _ (by omega)
theorem w_inR1 (x : Int32) {n : Nat} (h : n < 2 ^ 30) : decide ((0 : Int64) ≤ x.toInt64 ∧ x.toInt64 ≤ (nI n).toInt64) = inR x (n + 1) := by
  unfold inR
  congr 1
  apply propext
  rw [l64_0, l64_le, l64_le, nI_toInt (by omega), show (0 : Int32).toInt = 0 from rfl]
  omega
/-- what has been written -/
def OU (os : List Int32) (I : Nat → Int32) (F : Nat → Nat → Int32) : Prop := I 27 = nI os.length ∧ ∀ i, i < os.length → F 26 i = os.getD i 0
theorem OU_app {os : List Int32} {I : Nat → Int32} {F : Nat → Nat → Int32} {v c : Int32} (h : OU os I F) (hv : v = c) : OU (os ++ [c]) (upd I 27 (nI (os.length + 1))) (tw_u F 26 os.length v) := by
  refine ⟨by rw [tw_up, List.length_append]; rfl, fun i hi => ?_⟩
  rw [List.length_append] at hi
  have hi' : i < os.length + 1 := hi
  rw [tw_us]
  by_cases z : i = os.length
  · rw [z, List.getD_eq_getElem?_getD, List.getElem?_append_right (Nat.le_refl _), Nat.sub_self]
    exact pk_us.trans hv
  · rw [pk_un z, List.getD_eq_getElem?_getD, List.getElem?_append_left (by omega), ← List.getD_eq_getElem?_getD]
    exact h.2 i (by omega)
theorem nar_c {n : Nat} (h : n < 128) : (nI n).toInt8.toInt32 = nI n := by
  have : ∀ k : Fin 128, (nI k.val).toInt8.toInt32 = nI k.val := by decide
  exact this ⟨n, h⟩
theorem nar_ch {n : Nat} (h : n < 128) : vp_nar .byte ((nI n).toInt8.toInt32) = nI n := (nar_byte _).trans (nar_c h)
/-- the digits of a number -/
def dgs (m : Nat) : List Int32 := (if 99 < m then [nI (48 + m / 100)] else []) ++ ((if 9 < m then [nI (48 + m / 10 % 10)] else []) ++ [nI (48 + m % 10)])
def absN (x : Int32) : Nat := x.toInt.natAbs
def nds_ (x : Int32) : List Int32 := (if x < 0 then [nI 45] else []) ++ dgs (absN x)
theorem abs_eq {x : Int32} (h : inV x = true) : (if 0 ≤ x then x else 0 - x) = nI (absN x) ∧ absN x ≤ 999 := by
  obtain ⟨h1, h2⟩ := of_decide_eq_true h
  unfold absN
  refine ⟨?_, by omega⟩
  split
  · next z =>
    rw [Int32.le_iff_toInt_le] at z
    rw [← Int32.toInt_inj, nI_toInt (by omega)]
    have : (0 : Int32).toInt = 0 := rfl
    omega
  · next z =>
    rw [Int32.le_iff_toInt_le] at z
    have h0 : (0 : Int32).toInt = 0 := rfl
    rw [← Int32.toInt_inj, nI_toInt (by omega), Int32.toInt_sub, h0]
    rw [h0] at z
    rw [Int.bmod_eq_of_le (by omega) (by omega)]
    omega
theorem dgs_len (m : Nat) : (dgs m).length ≤ 3 := by
  unfold dgs; split <;> split <;> simp
theorem nds_len_ (x : Int32) : (nds_ x).length ≤ 4 := by
  have := dgs_len (absN x)
  unfold nds_; split <;> simp <;> omega
def sepB (i : Nat) : List Int32 := if i = 0 then [] else if i % 4 = 0 then [nI 124] else [nI 44]
def wvB (f : Nat → Int32) : Nat → List Int32
  | 0 => [nI 91]
  | i + 1 => wvB f i ++ (sepB i ++ nds_ (f i))
def wvA (f : Nat → Int32) (n : Nat) : List Int32 := wvB f n ++ [nI 93]
theorem wvB_len (f : Nat → Int32) (i : Nat) : (wvB f i).length ≤ 1 + 5 * i := by
  induction i with
  | zero => exact Nat.le_refl _
  | succ i ih =>
    have h1 : (sepB i).length ≤ 1 := by unfold sepB; split; exact Nat.zero_le _; split <;> exact Nat.le_refl _
    have h2 := nds_len_ (f i)
    unfold wvB
    rw [List.length_append, List.length_append]
    omega
