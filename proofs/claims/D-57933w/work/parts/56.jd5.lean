/-! ArrayDeques (printed by tools/jd5.py) -/
set_option maxRecDepth 100000 in
theorem q_inc (l : Launch) {G : mm_G} {P : mm_H} {H : Heap} {i k : Nat} (hi9 : i < 1000) (hk9 : k < 1000) : Mt l yJ19_inc (ws_ yJ19_inc cJ19_inc 2 (some .int)) 0 0 0 0 G P [.int (nI i), .int (nI k)] H mm_0 (mm_pu (.int (nI (inc9 i k))) H) := by
  refine Mt.of (by decide) (Nat.le_of_ble_eq_true rfl) (fun p e s m below meth c ls hx hb hr hlk hml hown hnm hts hKK hsH hl hS => ?_)
  have hl : lv_has ls 2 [(0, .int (nI i)), (1, .int (nI k))] := hl
  refine lv_iinc (v := nI (i + 1)) (lv' := [(0, .int (nI (i + 1))), (1, .int (nI k))]) hx hb dJ19_inc_0 hl (k := 0) rfl (nI_add _ _) (by decide) rfl (fun ls hl => ?_)
  refine lv_iload_n hx hb dJ19_inc_3 rfl (lv_at hl 0 rfl) ?_
  refine lv_iload_n hx hb dJ19_inc_4 rfl (lv_at hl 1 rfl) ?_
  refine mm_icmp_lt (tgt := 10) (by omega) (by omega) hx hb dJ19_inc_5 (by decide) (fun c_5 => ?_) (fun c_5 => ?_)
  · refine lv_iload_n hx hb dJ19_inc_10 rfl (lv_at hl 0 rfl) ?_
    exact mm_iret (v := nI (i + 1)) hx hb hr hlk hS (Nat.le_of_ble_eq_true rfl) (Nat.le_of_ble_eq_true rfl) (⟨by unfold inc9; first | rw [if_pos c_5] | rw [if_neg (by omega)], rfl⟩) dJ19_inc_11
  · refine lv_iconst (v := nI 0) hx hb dJ19_inc_8 (by decide) ?_
    refine lv_istore_n (lv' := [(0, .int (nI 0)), (1, .int (nI k))]) hx hb dJ19_inc_9 rfl hl (by decide) rfl (fun ls hl => ?_)
    refine lv_iload_n hx hb dJ19_inc_10 rfl (lv_at hl 0 rfl) ?_
    exact mm_iret (v := nI 0) hx hb hr hlk hS (Nat.le_of_ble_eq_true rfl) (Nat.le_of_ble_eq_true rfl) (⟨by unfold inc9; first | rw [if_pos c_5] | rw [if_neg (by omega)], rfl⟩) dJ19_inc_11
set_option maxRecDepth 100000 in
theorem q_dec (l : Launch) {G : mm_G} {P : mm_H} {H : Heap} {i k : Nat} (hi9 : i < 1000) (hk9 : k < 1000) (hk1 : 1 ≤ k) : Mt l yJ19_dec (ws_ yJ19_dec cJ19_dec 2 (some .int)) 0 0 0 0 G P [.int (nI i), .int (nI k)] H mm_0 (mm_pu (.int (nI (dec9 i k))) H) := by
  refine Mt.of (by decide) (Nat.le_of_ble_eq_true rfl) (fun p e s m below meth c ls hx hb hr hlk hml hown hnm hts hKK hsH hl hS => ?_)
  have hl : lv_has ls 2 [(0, .int (nI i)), (1, .int (nI k))] := hl
  rcases Nat.eq_zero_or_pos i with hz | hz
  · subst hz
    refine lv_iinc (v := (-1)) (lv' := [(0, .int ((-1))), (1, .int (nI k))]) hx hb dJ19_dec_0 hl (k := 0) rfl (rfl) (by decide) rfl (fun ls hl => ?_)
    refine lv_iload_n hx hb dJ19_dec_3 rfl (lv_at hl 0 rfl) ?_
    refine lv_if_ge (tgt := 11) hx hb dJ19_dec_4 (by decide) (fun c_4 => ?_) (fun c_4 => ?_)
    · exact absurd c_4 (by decide)
    · refine lv_iload_n hx hb dJ19_dec_7 rfl (lv_at hl 1 rfl) ?_
      refine lv_iconst (v := nI 1) hx hb dJ19_dec_8 (by decide) ?_
      refine mm_isub (by omega) hx hb dJ19_dec_9 ?_
      refine lv_istore_n (lv' := [(0, .int (nI (k - 1))), (1, .int (nI k))]) hx hb dJ19_dec_10 rfl hl (by decide) rfl (fun ls hl => ?_)
      refine lv_iload_n hx hb dJ19_dec_11 rfl (lv_at hl 0 rfl) ?_
      exact mm_iret (v := nI (k - 1)) hx hb hr hlk hS (Nat.le_of_ble_eq_true rfl) (Nat.le_of_ble_eq_true rfl) (⟨rfl, rfl⟩) dJ19_dec_12
  · refine lv_iinc (v := nI (i - 1)) (lv' := [(0, .int (nI (i - 1))), (1, .int (nI k))]) hx hb dJ19_dec_0 hl (k := 0) rfl (mm_decr (by omega)) (by decide) rfl (fun ls hl => ?_)
    refine lv_iload_n hx hb dJ19_dec_3 rfl (lv_at hl 0 rfl) ?_
    refine mm_if_ge (tgt := 11) (by omega) hx hb dJ19_dec_4 (by decide) (fun c_4 => ?_) (fun c_4 => ?_)
    · refine lv_iload_n hx hb dJ19_dec_11 rfl (lv_at hl 0 rfl) ?_
      exact mm_iret (v := nI (i - 1)) hx hb hr hlk hS (Nat.le_of_ble_eq_true rfl) (Nat.le_of_ble_eq_true rfl) (⟨by unfold dec9; rw [if_neg (by omega)], rfl⟩) dJ19_dec_12
    · exact c_4.elim
set_option maxRecDepth 100000 in
theorem q_sub (l : Launch) {G : mm_G} {P : mm_H} {H : Heap} {i j k : Nat} (hi9 : i < 1000) (hj9 : j < 1000) (hk9 : k < 1000) (hjk : j ≤ k) : Mt l yJ19_sub (ws_ yJ19_sub cJ19_sub 3 (some .int)) 0 0 0 0 G P [.int (nI i), .int (nI j), .int (nI k)] H mm_0 (mm_pu (.int (nI (if j ≤ i then i - j else i + k - j))) H) := by
  refine Mt.of (by decide) (Nat.le_of_ble_eq_true rfl) (fun p e s m below meth c ls hx hb hr hlk hml hown hnm hts hKK hsH hl hS => ?_)
  have hl : lv_has ls 3 [(0, .int (nI i)), (1, .int (nI j)), (2, .int (nI k))] := hl
  rcases Nat.lt_or_ge i j with hz | hz
  · refine lv_iload_n hx hb dJ19_sub_0 rfl (lv_at hl 0 rfl) ?_
    refine lv_iload_n hx hb dJ19_sub_1 rfl (lv_at hl 1 rfl) ?_
    refine lv_isub hx hb dJ19_sub_2 ?_
    refine lv_dup hx hb dJ19_sub_3 rfl ?_
    refine lv_istore_n (lv' := [(0, .int ((nI i) - (nI j))), (1, .int (nI j)), (2, .int (nI k))]) hx hb dJ19_sub_4 rfl hl (by decide) rfl (fun ls hl => ?_)
    refine lv_if_ge (tgt := 12) hx hb dJ19_sub_5 (by decide) (fun c_5 => ?_) (fun c_5 => ?_)
    · exact absurd (sub_neg hz hj9) (Int32.not_lt.mpr c_5)
    · refine lv_iload_n hx hb dJ19_sub_8 rfl (lv_at hl 0 rfl) ?_
      refine lv_iload_n hx hb dJ19_sub_9 rfl (lv_at hl 2 rfl) ?_
      refine lv_iadd hx hb dJ19_sub_10 ?_
      refine lv_istore_n (lv' := [(0, .int (((nI i) - (nI j)) + (nI k))), (1, .int (nI j)), (2, .int (nI k))]) hx hb dJ19_sub_11 rfl hl (by decide) rfl (fun ls hl => ?_)
      refine lv_iload_n hx hb dJ19_sub_12 rfl (lv_at hl 0 rfl) ?_
      refine mm_top (y := nI (i + k - j)) (sub_add hz hjk) ?_
      exact mm_iret (v := nI (i + k - j)) hx hb hr hlk hS (Nat.le_of_ble_eq_true rfl) (Nat.le_of_ble_eq_true rfl) (⟨by rw [if_neg (by omega)], rfl⟩) dJ19_sub_13
  · refine lv_iload_n hx hb dJ19_sub_0 rfl (lv_at hl 0 rfl) ?_
    refine lv_iload_n hx hb dJ19_sub_1 rfl (lv_at hl 1 rfl) ?_
    refine mm_isub (by omega) hx hb dJ19_sub_2 ?_
    refine lv_dup hx hb dJ19_sub_3 rfl ?_
    refine lv_istore_n (lv' := [(0, .int (nI (i - j))), (1, .int (nI j)), (2, .int (nI k))]) hx hb dJ19_sub_4 rfl hl (by decide) rfl (fun ls hl => ?_)
    refine mm_if_ge (tgt := 12) (by omega) hx hb dJ19_sub_5 (by decide) (fun c_5 => ?_) (fun c_5 => ?_)
    · refine lv_iload_n hx hb dJ19_sub_12 rfl (lv_at hl 0 rfl) ?_
      exact mm_iret (v := nI (i - j)) hx hb hr hlk hS (Nat.le_of_ble_eq_true rfl) (Nat.le_of_ble_eq_true rfl) (⟨by rw [if_pos (by omega)], rfl⟩) dJ19_sub_13
    · exact c_5.elim
set_option maxRecDepth 100000 in
theorem q_eat (l : Launch) {G : mm_G} {P : mm_H} {H : Heap} {W : mm_H} {arr cap i : Nat} {f : Nat → Option Nat} {v : Nat} (hA : mm_qa G W arr 4 cap f) (hWF : mm_le W (mm_h H)) (hi9 : i < cap) (hc9 : cap < 1000) (hv : f i = some v) : Mt l yJ19_elementAt (ws_ yJ19_elementAt cJ19_elementAt 2 (some (.object "java/lang/Object"))) 0 0 0 0 G P [.ref arr, .int (nI i)] H mm_0 (mm_pu (.ref v) H) := by
  refine Mt.of (by decide) (Nat.le_of_ble_eq_true rfl) (fun p e s m below meth c ls hx hb hr hlk hml hown hnm hts hKK hsH hl hS => ?_)
  have hl : lv_has ls 2 [(0, .ref arr), (1, .int (nI i))] := hl
  refine lv_aload_n hx hb dJ19_elementAt_0 rfl (lv_at hl 0 rfl) ?_
  refine lv_iload_n hx hb dJ19_elementAt_1 rfl (lv_at hl 1 rfl) ?_
  refine mm_aald (k := i) hx hb hKK hA hWF (by omega) (by omega) dJ19_elementAt_2 ?_
  refine mm_topv (y := .ref v) (by rw [hv]; rfl) ?_
  exact mm_aret (v := .ref v) hx hb hr rfl hlk hS (Nat.le_of_ble_eq_true rfl) (Nat.le_of_ble_eq_true rfl) (Or.inr ⟨_, rfl⟩) (⟨rfl, rfl⟩) dJ19_elementAt_3
set_option maxRecDepth 100000 in
theorem q_isEmpty (l : Launch) {G : mm_G} {P : mm_H} {H : Heap} {W : mm_H} {a arr cap hd n : Nat} {es : Nat → Nat} (hQ : DQ G W a arr cap hd n es) (hWF : mm_le W (mm_h H)) : Mt l yJ19_isEmpty (ws_ yJ19_isEmpty cJ19_isEmpty 1 (some .boolean)) 0 0 0 0 G P [.ref a] H mm_0 (mm_pu (.int (mm_b (decide (n = 0)))) H) := by
  refine Mt.of (by decide) (Nat.le_of_ble_eq_true rfl) (fun p e s m below meth c ls hx hb hr hlk hml hown hnm hts hKK hsH hl hS => ?_)
  have hl : lv_has ls 1 [(0, .ref a)] := hl
  obtain ⟨hO, ⟨hhd, hnc, hc20⟩, hnea, f, hA, hf⟩ := hQ
  have hpn := pl_lt hhd (Nat.le_of_lt hnc)
  refine lv_aload_n hx hb dJ19_isEmpty_0 rfl (lv_at hl 0 rfl) ?_
  refine mm_get (C := RJ19) (T := TJ19) (N := 3) (ci := 16) (v := .int (nI hd)) hx hb hts in_J19 hown hKK (mm_ob.rb hO) hWF rfl 1 (by decide) (hts _ q851) (fun _ h9 => h9) rfl dJ19_isEmpty_1 ?_
  refine lv_aload_n hx hb dJ19_isEmpty_4 rfl (lv_at hl 0 rfl) ?_
  refine mm_get (C := RJ19) (T := TJ19) (N := 3) (ci := 16) (v := .int (nI (pl hd cap n))) hx hb hts in_J19 hown hKK (mm_ob.rb hO) hWF rfl 2 (by decide) (hts _ q852) (fun _ h9 => h9) rfl dJ19_isEmpty_5 ?_
  refine mm_icmp_ne (tgt := 15) (by omega) (by omega) hx hb dJ19_isEmpty_8 (by decide) (fun c_8 => ?_) (fun c_8 => ?_)
  · have hn0 : n ≠ 0 := fun z => c_8 (by rw [z]; exact (pl_0 hhd).symm)
    refine lv_iconst (v := nI 0) hx hb dJ19_isEmpty_15 (by decide) ?_
    refine mm_top (y := mm_b false) rfl ?_
    exact mm_zret (v := mm_b false) hx hb hr hlk hS (Nat.le_of_ble_eq_true rfl) (Nat.le_of_ble_eq_true rfl) (mm_nb _) (⟨by first | exact mm_d1 hn0 | exact mm_d0 hn0, rfl⟩) dJ19_isEmpty_16
  · have hn0 : n = 0 := pl_inj hhd hnc (by omega) ((c_8.symm).trans (pl_0 hhd).symm)
    refine lv_iconst (v := nI 1) hx hb dJ19_isEmpty_11 (by decide) ?_
    refine mm_top (y := mm_b true) rfl ?_
    refine lv_goto (tgt := 16) hx hb dJ19_isEmpty_12 (by decide) ?_
    exact mm_zret (v := mm_b true) hx hb hr hlk hS (Nat.le_of_ble_eq_true rfl) (Nat.le_of_ble_eq_true rfl) (mm_nb _) (⟨by first | exact mm_d1 hn0 | exact mm_d0 hn0, rfl⟩) dJ19_isEmpty_16
set_option maxRecDepth 100000 in
theorem q_size (l : Launch) {G : mm_G} {P : mm_H} {H : Heap} {W : mm_H} {a arr cap hd n : Nat} {es : Nat → Nat} (hQ : DQ G W a arr cap hd n es) (hWF : mm_le W (mm_h H)) : Mt l yJ19_size (ws_ yJ19_size cJ19_size 1 (some .int)) 1 30 0 0 G P [.ref a] H mm_0 (mm_pu (.int (nI n)) H) := by
  refine Mt.of (by decide) (Nat.le_of_ble_eq_true rfl) (fun p e s m below meth c ls hx hb hr hlk hml hown hnm hts hKK hsH hl hS => ?_)
  have hl : lv_has ls 1 [(0, .ref a)] := hl
  obtain ⟨hO, ⟨hhd, hnc, hc20⟩, hnea, f, hA, hf⟩ := hQ
  have hpn := pl_lt hhd (Nat.le_of_lt hnc)
  refine lv_aload_n hx hb dJ19_size_0 rfl (lv_at hl 0 rfl) ?_
  refine mm_get (C := RJ19) (T := TJ19) (N := 3) (ci := 16) (v := .int (nI (pl hd cap n))) hx hb hts in_J19 hown hKK (mm_ob.rb hO) hWF rfl 2 (by decide) (hts _ q852) (fun _ h9 => h9) rfl dJ19_size_1 ?_
  refine lv_aload_n hx hb dJ19_size_4 rfl (lv_at hl 0 rfl) ?_
  refine mm_get (C := RJ19) (T := TJ19) (N := 3) (ci := 16) (v := .int (nI hd)) hx hb hts in_J19 hown hKK (mm_ob.rb hO) hWF rfl 1 (by decide) (hts _ q851) (fun _ h9 => h9) rfl dJ19_size_5 ?_
  refine lv_aload_n hx hb dJ19_size_8 rfl (lv_at hl 0 rfl) ?_
  refine mm_get (C := RJ19) (T := TJ19) (N := 3) (ci := 16) (v := .ref arr) hx hb hts in_J19 hown hKK (mm_ob.rb hO) hWF rfl 0 (by decide) (hts _ q850) (fun _ h9 => h9) rfl dJ19_size_9 ?_
  refine mm_alen hx hb hKK 4 rfl hA hWF dJ19_size_12 ?_
  refine mm_rpu (va_runS (As := [.int (nI (pl hd cap n)), .int (nI hd), .int (nI cap)]) (rest := []) ⟨hx, hb, hml, hown, hts⟩ (q_sub l (by omega) (by omega) (by omega) (by omega)) (va_cwS 3 hts (lw_S q1285 q1286 q163 q1287) rfl rfl rfl (by decide +kernel) ⟨Nat.le_of_ble_eq_true rfl, Nat.le_of_ble_eq_true rfl⟩) (mm_pS hKK) rfl rfl hl.1 rfl (lv_room (Nat.le_of_ble_eq_true rfl)) dJ19_size_13 ⟨Nat.le_of_ble_eq_true rfl, Nat.le_of_ble_eq_true rfl⟩) hS (mm_s0 hS) (fun L_13 hS => ?_)
  refine mm_top (y := nI n) (congrArg nI (pl_sub hhd hnc)) ?_
  exact mm_iret (v := nI n) hx hb hr hlk hS (Nat.le_of_ble_eq_true rfl) (Nat.le_of_ble_eq_true rfl) (⟨rfl, rfl⟩) dJ19_size_16
set_option maxRecDepth 100000 in
theorem q_add (l : Launch) {G : mm_G} {P : mm_H} {H : Heap} {a arr cap hd n : Nat} {es : Nat → Nat}{v : Nat} {We : mm_H} (hQ : DQ G (mm_h H) a arr cap hd n es) (hroom : n + 1 < cap) (hv : mm_el G We v) (hWe : mm_le We (mm_h H)) : Mt l yJ19_addLast (ws_ yJ19_addLast cJ19_addLast 3 none) 1 40 0 0 G P [.ref a, .ref v] H (fun q => q = a ∨ q = arr) (mm_v (fun H1 => DQ G (mm_h H1) a arr cap hd (n + 1) (fun j => if j = n then v else es j))) := by
  refine Mt.of (by decide) (Nat.le_of_ble_eq_true rfl) (fun p e s m below meth c ls hx hb hr hlk hml hown hnm hts hKK hsH hl hS => ?_)
  have hl : lv_has ls 3 [(0, .ref a), (1, .ref v)] := hl
  obtain ⟨hO, ⟨hhd, hnc, hc20⟩, hnea, f, hA, hf⟩ := hQ
  have hpn := pl_lt hhd (Nat.le_of_lt hnc)
  refine lv_aload_n hx hb dJ19_addLast_0 rfl (lv_at hl 1 rfl) ?_
  refine lv_ifnonnull (tgt := 12) hx hb dJ19_addLast_1 (by decide) ?_
  refine lv_aload_n hx hb dJ19_addLast_12 rfl (lv_at hl 0 rfl) ?_
  refine mm_get (C := RJ19) (T := TJ19) (N := 3) (ci := 16) (v := .ref arr) hx hb hts in_J19 hown hKK (mm_ob.rb hO) mm_le.rf rfl 0 (by decide) (hts _ q850) (fun _ h9 => h9) rfl dJ19_addLast_13 ?_
  refine lv_astore_n (lv' := [(2, .ref arr), (0, .ref a), (1, .ref v)]) hx hb dJ19_addLast_16 rfl hl (by decide) rfl (fun ls hl => ?_)
  refine lv_aload_n hx hb dJ19_addLast_17 rfl (lv_at hl 0 rfl) ?_
  refine lv_aload_n hx hb dJ19_addLast_18 rfl (lv_at hl 1 rfl) ?_
  refine mm_get (C := RJ19) (T := TJ19) (N := 3) (ci := 16) (v := .int (nI (pl hd cap n))) hx hb hts in_J19 hown hKK (mm_ob.rb hO) mm_le.rf rfl 2 (by decide) (hts _ q852) (fun _ h9 => h9) rfl dJ19_addLast_19 ?_
  refine lv_aload_n hx hb dJ19_addLast_22 rfl (lv_at hl 2 rfl) ?_
  refine mm_aast (k := (pl hd cap n)) hx hb hKK hA hS (Or.inl (Or.inr rfl)) (by omega) (by omega) hv hWe dJ19_addLast_23 (fun H_23 L_23 hA hz_23 hq_23 hS => ?_)
  have hO := hO.kept (hq_23 _ ((Ne.symm hnea).symm))
  refine lv_aload_n hx hb dJ19_addLast_24 rfl (lv_at hl 1 rfl) ?_
  refine mm_get (C := RJ19) (T := TJ19) (N := 3) (ci := 16) (v := .int (nI hd)) hx hb hts in_J19 hown hKK (mm_ob.rb hO) mm_le.rf rfl 1 (by decide) (hts _ q851) (fun _ h9 => h9) rfl dJ19_addLast_25 ?_
  refine lv_aload_n hx hb dJ19_addLast_28 rfl (lv_at hl 1 rfl) ?_
  refine lv_aload_n hx hb dJ19_addLast_29 rfl (lv_at hl 1 rfl) ?_
  refine mm_get (C := RJ19) (T := TJ19) (N := 3) (ci := 16) (v := .int (nI (pl hd cap n))) hx hb hts in_J19 hown hKK (mm_ob.rb hO) mm_le.rf rfl 2 (by decide) (hts _ q852) (fun _ h9 => h9) rfl dJ19_addLast_30 ?_
  refine lv_aload_n hx hb dJ19_addLast_33 rfl (lv_at hl 0 rfl) ?_
  refine mm_alen hx hb hKK 4 rfl hA mm_le.rf dJ19_addLast_34 ?_
  refine mm_rpu (va_runS (As := [.int (nI (pl hd cap n)), .int (nI cap)]) (rest := [.ref a, .int (nI hd)]) ⟨hx, hb, hml, hown, hts⟩ (q_inc l (by omega) (by omega)) (va_cwS 2 hts (lw_S q1299 q1300 q163 q1301) rfl rfl rfl (by decide +kernel) ⟨Nat.le_of_ble_eq_true rfl, Nat.le_of_ble_eq_true rfl⟩) (mm_pS hKK) rfl rfl hl.1 rfl (lv_room (Nat.le_of_ble_eq_true rfl)) dJ19_addLast_35 ⟨Nat.le_of_ble_eq_true rfl, Nat.le_of_ble_eq_true rfl⟩) hS (mm_s0 hS) (fun L_35 hS => ?_)
  refine mm_top (y := nI (pl hd cap (n + 1))) (congrArg nI (pl_inc hhd hroom)) ?_
  have hnn : hd ≠ pl hd cap (n + 1) := fun z => by have := pl_inj hhd hroom (show 0 < cap by omega) (z.symm.trans (pl_0 hhd).symm); omega
  have hpn1 := pl_lt hhd (Nat.le_of_lt hroom)
  refine lv_dup_x1 hx hb dJ19_addLast_38 rfl rfl ?_
  refine mm_put (C := RJ19) (T := TJ19) (N := 3) (ci := 16) (v := .int (nI (pl hd cap (n + 1)))) (ty := .int) hx hb hts in_J19 tyJ19 tyJ19_ok nmJ19 hown hKK hO hS (Or.inl (Or.inl rfl)) rfl 2 (by decide) (hts _ q852) (fun _ h9 => h9) rfl  (by decide +kernel) (rfl) (rfl) (Nat.le_of_ble_eq_true rfl) dJ19_addLast_39 (fun H_39 L_39 hO hz_39 hq_39 hS => ?_)
  have hO : mm_ob G (mm_h H_39) a 16 [.ref arr, .int (nI hd), .int (nI (pl hd cap (n + 1)))] := hO
  have hA := hA.kept (hq_39 _ ((Ne.symm hnea)))
  refine mm_icmp_ne (tgt := 50) (by omega) (by omega) hx hb dJ19_addLast_42 (by decide) (fun c_42 => ?_) (fun c_42 => ?_)
  · exact mm_vret hx hb hr hlk hS (Nat.le_of_ble_eq_true rfl) (Nat.le_of_ble_eq_true rfl) (⟨rfl, hO, ⟨hhd, hroom, hc20⟩, hnea, _, hA, fun i hi => by unfold updO; by_cases z : i = n; rw [z, if_pos rfl]; exact congrArg some (if_pos rfl).symm; rw [if_neg (fun y => z (pl_inj hhd (by omega) hnc y))]; exact (hf i (by omega)).trans (congrArg some (if_neg z).symm)⟩) dJ19_addLast_50
  · exfalso; omega
set_option maxRecDepth 100000 in
theorem q_poll (l : Launch) {G : mm_G} {P : mm_H} {H : Heap} {a arr cap hd n : Nat} {es : Nat → Nat} (hQ : DQ G (mm_h H) a arr cap hd n es) (hn1 : 1 ≤ n) : Mt l yJ19_pollLast (ws_ yJ19_pollLast cJ19_pollLast 4 (some (.object "java/lang/Object"))) 1 40 0 0 G P [.ref a] H (fun q => q = a ∨ q = arr) (mm_r (fun b H1 => b = es (n - 1) ∧ DQ G (mm_h H1) a arr cap hd (n - 1) es)) := by
  refine Mt.of (by decide) (Nat.le_of_ble_eq_true rfl) (fun p e s m below meth c ls hx hb hr hlk hml hown hnm hts hKK hsH hl hS => ?_)
  have hl : lv_has ls 4 [(0, .ref a)] := hl
  obtain ⟨hO, ⟨hhd, hnc, hc20⟩, hnea, f, hA, hf⟩ := hQ
  have hpn := pl_lt hhd (Nat.le_of_lt hnc)
  refine lv_aload_n hx hb dJ19_pollLast_0 rfl (lv_at hl 0 rfl) ?_
  refine mm_get (C := RJ19) (T := TJ19) (N := 3) (ci := 16) (v := .ref arr) hx hb hts in_J19 hown hKK (mm_ob.rb hO) mm_le.rf rfl 0 (by decide) (hts _ q850) (fun _ h9 => h9) rfl dJ19_pollLast_1 ?_
  refine lv_dup hx hb dJ19_pollLast_4 rfl ?_
  refine lv_astore_n (lv' := [(1, .ref arr), (0, .ref a)]) hx hb dJ19_pollLast_5 rfl hl (by decide) rfl (fun ls hl => ?_)
  refine lv_aload_n hx hb dJ19_pollLast_6 rfl (lv_at hl 1 rfl) ?_
  refine mm_get (C := RJ19) (T := TJ19) (N := 3) (ci := 16) (v := .int (nI (pl hd cap n))) hx hb hts in_J19 hown hKK (mm_ob.rb hO) mm_le.rf rfl 2 (by decide) (hts _ q852) (fun _ h9 => h9) rfl dJ19_pollLast_7 ?_
  refine lv_aload_n hx hb dJ19_pollLast_10 rfl (lv_at hl 0 rfl) ?_
  refine mm_alen hx hb hKK 4 rfl hA mm_le.rf dJ19_pollLast_11 ?_
  refine mm_rpu (va_runS (As := [.int (nI (pl hd cap n)), .int (nI cap)]) (rest := [.ref arr]) ⟨hx, hb, hml, hown, hts⟩ (q_dec l (by omega) (by omega) (by omega)) (va_cwS 2 hts (lw_S q1627 q1628 q163 q1629) rfl rfl rfl (by decide +kernel) ⟨Nat.le_of_ble_eq_true rfl, Nat.le_of_ble_eq_true rfl⟩) (mm_pS hKK) rfl rfl hl.1 rfl (lv_room (Nat.le_of_ble_eq_true rfl)) dJ19_pollLast_12 ⟨Nat.le_of_ble_eq_true rfl, Nat.le_of_ble_eq_true rfl⟩) hS (mm_s0 hS) (fun L_12 hS => ?_)
  refine mm_top (y := nI (pl hd cap (n - 1))) (congrArg nI (pl_dec hhd hnc hn1)) ?_
  have hpl1 := pl_lt hhd (show n - 1 ≤ cap by omega)
  refine lv_dup hx hb dJ19_pollLast_15 rfl ?_
  refine lv_istore_n (lv' := [(2, .int (nI (pl hd cap (n - 1)))), (1, .ref arr), (0, .ref a)]) hx hb dJ19_pollLast_16 rfl hl (by decide) rfl (fun ls hl => ?_)
  refine mm_rpu (va_runS (As := [.ref arr, .int (nI (pl hd cap (n - 1)))]) (rest := []) ⟨hx, hb, hml, hown, hts⟩ (q_eat l hA mm_le.rf (by omega) (by omega) (hf (n - 1) (by omega))) (va_cwS 2 hts (lw_S q1296 q1297 q163 q1298) rfl rfl rfl (by decide +kernel) ⟨Nat.le_of_ble_eq_true rfl, Nat.le_of_ble_eq_true rfl⟩) (mm_pS hKK) rfl rfl hl.1 rfl (lv_room (Nat.le_of_ble_eq_true rfl)) dJ19_pollLast_17 ⟨Nat.le_of_ble_eq_true rfl, Nat.le_of_ble_eq_true rfl⟩) hS (mm_s0 hS) (fun L_17 hS => ?_)
  refine lv_astore_n (lv' := [(3, .ref (es (n - 1))), (2, .int (nI (pl hd cap (n - 1)))), (1, .ref arr), (0, .ref a)]) hx hb dJ19_pollLast_20 rfl hl (by decide) rfl (fun ls hl => ?_)
  refine lv_aload_n hx hb dJ19_pollLast_21 rfl (lv_at hl 0 rfl) ?_
  refine lv_ifnull hx hb dJ19_pollLast_22 ?_
  refine lv_aload_n hx hb dJ19_pollLast_25 rfl (lv_at hl 2 rfl) ?_
  refine lv_aload_n hx hb dJ19_pollLast_26 rfl (lv_at hl 3 rfl) ?_
  refine lv_iload_n hx hb dJ19_pollLast_27 rfl (lv_at hl 1 rfl) ?_
  refine lv_dup_x1 hx hb dJ19_pollLast_28 rfl rfl ?_
  refine mm_put (C := RJ19) (T := TJ19) (N := 3) (ci := 16) (v := .int (nI (pl hd cap (n - 1)))) (ty := .int) hx hb hts in_J19 tyJ19 tyJ19_ok nmJ19 hown hKK hO hS (Or.inl (Or.inl rfl)) rfl 2 (by decide) (hts _ q852) (fun _ h9 => h9) rfl  (by decide +kernel) (rfl) (rfl) (Nat.le_of_ble_eq_true rfl) dJ19_pollLast_29 (fun H_29 L_29 hO hz_29 hq_29 hS => ?_)
  have hO : mm_ob G (mm_h H_29) a 16 [.ref arr, .int (nI hd), .int (nI (pl hd cap (n - 1)))] := hO
  have hA := hA.kept (hq_29 _ ((Ne.symm hnea)))
  refine lv_null hx hb dJ19_pollLast_32 ?_
  refine mm_aastN (k := (pl hd cap (n - 1))) hx hb hKK hA hS (Or.inl (Or.inr rfl)) (by omega) (by omega) dJ19_pollLast_33 (fun H_33 L_33 hA hz_33 hq_33 hS => ?_)
  have hO := hO.kept (hq_33 _ ((Ne.symm hnea).symm))
  refine lv_aload_n hx hb dJ19_pollLast_34 rfl (lv_at hl 0 rfl) ?_
  exact mm_aret (v := .ref (es (n - 1))) hx hb hr rfl hlk hS (Nat.le_of_ble_eq_true rfl) (Nat.le_of_ble_eq_true rfl) (Or.inr ⟨_, rfl⟩) (⟨_, rfl, rfl, hO, ⟨hhd, by omega, hc20⟩, hnea, _, hA, fun i hi => by unfold updO; rw [if_neg (fun y => by have := pl_inj hhd (by omega) (by omega) y; omega)]; exact hf i (by omega)⟩) dJ19_pollLast_35
set_option maxRecDepth 100000 in
theorem q_rl (l : Launch) {G : mm_G} {P : mm_H} {H : Heap} {a arr cap hd n : Nat} {es : Nat → Nat} (hQ : DQ G (mm_h H) a arr cap hd n es) (hn1 : 1 ≤ n) : Mt l yJ19_removeLast (ws_ yJ19_removeLast cJ19_removeLast 2 (some (.object "java/lang/Object"))) 2 80 0 0 G P [.ref a] H (fun q => q = a ∨ q = arr) (mm_r (fun b H1 => b = es (n - 1) ∧ DQ G (mm_h H1) a arr cap hd (n - 1) es)) := by
  refine Mt.of (by decide) (Nat.le_of_ble_eq_true rfl) (fun p e s m below meth c ls hx hb hr hlk hml hown hnm hts hKK hsH hl hS => ?_)
  have hl : lv_has ls 2 [(0, .ref a)] := hl
  obtain ⟨hO, ⟨hhd, hnc, hc20⟩, hnea, f, hA, hf⟩ := hQ
  have hpn := pl_lt hhd (Nat.le_of_lt hnc)
  refine lv_aload_n hx hb dJ19_removeLast_0 rfl (lv_at hl 0 rfl) ?_
  have hQ1 : DQ G (mm_h H) a arr cap hd n es := ⟨hO, ⟨hhd, hnc, hc20⟩, hnea, f, hA, hf⟩
  refine mm_rr (va_runV (As := []) (rest := []) ⟨hx, hb, hml, hown, hts⟩ (q_poll l hQ1 hn1) (cwV 0 hts (lw_V q1623 q1624 q1625 q163 q1626) rfl rfl rfl (by decide +kernel) ⟨Nat.le_of_ble_eq_true rfl, Nat.le_of_ble_eq_true rfl⟩) (mm_pV hKK (mm_rc hKK hO mm_le.rf rfl)) rfl rfl hl.1 rfl (lv_room (Nat.le_of_ble_eq_true rfl)) dJ19_removeLast_1 ⟨Nat.le_of_ble_eq_true rfl, Nat.le_of_ble_eq_true rfl⟩) hS (mm_sS hS) (fun b_1 H_1 L_1 hB_1 hz_1 hq_1 hS => ?_)
  refine lv_astore_n (lv' := [(1, .ref b_1), (0, .ref a)]) hx hb dJ19_removeLast_4 rfl hl (by decide) rfl (fun ls hl => ?_)
  refine lv_aload_n hx hb dJ19_removeLast_5 rfl (lv_at hl 0 rfl) ?_
  refine lv_ifnonnull (tgt := 17) hx hb dJ19_removeLast_6 (by decide) ?_
  refine lv_aload_n hx hb dJ19_removeLast_17 rfl (lv_at hl 0 rfl) ?_
  exact mm_aret (v := .ref b_1) hx hb hr rfl hlk hS (Nat.le_of_ble_eq_true rfl) (Nat.le_of_ble_eq_true rfl) (Or.inr ⟨_, rfl⟩) (⟨_, rfl, hB_1⟩) dJ19_removeLast_18
set_option maxRecDepth 100000 in
theorem q_pollf (l : Launch) {G : mm_G} {P : mm_H} {H : Heap} {a arr cap hd n : Nat} {es : Nat → Nat} (hQ : DQ G (mm_h H) a arr cap hd n es) (hn1 : 1 ≤ n) : Mt l yJ19_pollFirst (ws_ yJ19_pollFirst cJ19_pollFirst 4 (some (.object "java/lang/Object"))) 1 40 0 0 G P [.ref a] H (fun q => q = a ∨ q = arr) (mm_r (fun b H1 => b = es 0 ∧ DQ G (mm_h H1) a arr cap (inc9 hd cap) (n - 1) (fun j => es (j + 1)))) := by
  refine Mt.of (by decide) (Nat.le_of_ble_eq_true rfl) (fun p e s m below meth c ls hx hb hr hlk hml hown hnm hts hKK hsH hl hS => ?_)
  have hl : lv_has ls 4 [(0, .ref a)] := hl
  obtain ⟨hO, ⟨hhd, hnc, hc20⟩, hnea, f, hA, hf⟩ := hQ
  have hpn := pl_lt hhd (Nat.le_of_lt hnc)
  refine lv_aload_n hx hb dJ19_pollFirst_0 rfl (lv_at hl 0 rfl) ?_
  refine mm_get (C := RJ19) (T := TJ19) (N := 3) (ci := 16) (v := .ref arr) hx hb hts in_J19 hown hKK (mm_ob.rb hO) mm_le.rf rfl 0 (by decide) (hts _ q850) (fun _ h9 => h9) rfl dJ19_pollFirst_1 ?_
  refine lv_dup hx hb dJ19_pollFirst_4 rfl ?_
  refine lv_astore_n (lv' := [(1, .ref arr), (0, .ref a)]) hx hb dJ19_pollFirst_5 rfl hl (by decide) rfl (fun ls hl => ?_)
  refine lv_aload_n hx hb dJ19_pollFirst_6 rfl (lv_at hl 1 rfl) ?_
  refine mm_get (C := RJ19) (T := TJ19) (N := 3) (ci := 16) (v := .int (nI hd)) hx hb hts in_J19 hown hKK (mm_ob.rb hO) mm_le.rf rfl 1 (by decide) (hts _ q851) (fun _ h9 => h9) rfl dJ19_pollFirst_7 ?_
  refine lv_dup hx hb dJ19_pollFirst_10 rfl ?_
  refine lv_istore_n (lv' := [(2, .int (nI hd)), (1, .ref arr), (0, .ref a)]) hx hb dJ19_pollFirst_11 rfl hl (by decide) rfl (fun ls hl => ?_)
  refine mm_rpu (va_runS (As := [.ref arr, .int (nI hd)]) (rest := []) ⟨hx, hb, hml, hown, hts⟩ (q_eat l hA mm_le.rf (by omega) (by omega) (by have := hf 0 (by omega); rw [pl_0 hhd] at this; exact this)) (va_cwS 2 hts (lw_S q1296 q1297 q163 q1298) rfl rfl rfl (by decide +kernel) ⟨Nat.le_of_ble_eq_true rfl, Nat.le_of_ble_eq_true rfl⟩) (mm_pS hKK) rfl rfl hl.1 rfl (lv_room (Nat.le_of_ble_eq_true rfl)) dJ19_pollFirst_12 ⟨Nat.le_of_ble_eq_true rfl, Nat.le_of_ble_eq_true rfl⟩) hS (mm_s0 hS) (fun L_12 hS => ?_)
  refine lv_astore_n (lv' := [(3, .ref (es 0)), (2, .int (nI hd)), (1, .ref arr), (0, .ref a)]) hx hb dJ19_pollFirst_15 rfl hl (by decide) rfl (fun ls hl => ?_)
  refine lv_aload_n hx hb dJ19_pollFirst_16 rfl (lv_at hl 0 rfl) ?_
  refine lv_ifnull hx hb dJ19_pollFirst_17 ?_
  refine lv_aload_n hx hb dJ19_pollFirst_20 rfl (lv_at hl 2 rfl) ?_
  refine lv_iload_n hx hb dJ19_pollFirst_21 rfl (lv_at hl 1 rfl) ?_
  refine lv_null hx hb dJ19_pollFirst_22 ?_
  refine mm_aastN (k := hd) hx hb hKK hA hS (Or.inl (Or.inr rfl)) (by omega) (by omega) dJ19_pollFirst_23 (fun H_23 L_23 hA hz_23 hq_23 hS => ?_)
  have hO := hO.kept (hq_23 _ ((Ne.symm hnea).symm))
  refine lv_aload_n hx hb dJ19_pollFirst_24 rfl (lv_at hl 3 rfl) ?_
  refine lv_iload_n hx hb dJ19_pollFirst_25 rfl (lv_at hl 1 rfl) ?_
  refine lv_aload_n hx hb dJ19_pollFirst_26 rfl (lv_at hl 2 rfl) ?_
  refine mm_alen hx hb hKK 4 rfl hA mm_le.rf dJ19_pollFirst_27 ?_
  refine mm_rpu (va_runS (As := [.int (nI hd), .int (nI cap)]) (rest := [.ref a]) ⟨hx, hb, hml, hown, hts⟩ (q_inc l (by omega) (by omega)) (va_cwS 2 hts (lw_S q1299 q1300 q163 q1301) rfl rfl rfl (by decide +kernel) ⟨Nat.le_of_ble_eq_true rfl, Nat.le_of_ble_eq_true rfl⟩) (mm_pS hKK) rfl rfl hl.1 rfl (lv_room (Nat.le_of_ble_eq_true rfl)) dJ19_pollFirst_28 ⟨Nat.le_of_ble_eq_true rfl, Nat.le_of_ble_eq_true rfl⟩) hS (mm_s0 hS) (fun L_28 hS => ?_)
  refine mm_put (C := RJ19) (T := TJ19) (N := 3) (ci := 16) (v := .int (nI (inc9 hd cap))) (ty := .int) hx hb hts in_J19 tyJ19 tyJ19_ok nmJ19 hown hKK hO hS (Or.inl (Or.inl rfl)) rfl 1 (by decide) (hts _ q851) (fun _ h9 => h9) rfl  (by decide +kernel) (rfl) (rfl) (Nat.le_of_ble_eq_true rfl) dJ19_pollFirst_31 (fun H_31 L_31 hO hz_31 hq_31 hS => ?_)
  have hO : mm_ob G (mm_h H_31) a 16 [.ref arr, .int (nI (inc9 hd cap)), .int (nI (pl hd cap n))] := hO
  have hA := hA.kept (hq_31 _ ((Ne.symm hnea)))
  refine lv_aload_n hx hb dJ19_pollFirst_34 rfl (lv_at hl 0 rfl) ?_
  exact mm_aret (v := .ref (es 0)) hx hb hr rfl hlk hS (Nat.le_of_ble_eq_true rfl) (Nat.le_of_ble_eq_true rfl) (Or.inr ⟨_, rfl⟩) (⟨_, rfl, rfl, by have e9 : pl (inc9 hd cap) cap (n - 1) = pl hd cap n := (by rw [pl_hd hhd (by omega), show n - 1 + 1 = n by omega]); rw [e9]; exact hO, ⟨by unfold inc9; split <;> omega, by omega, hc20⟩, hnea, _, hA, fun i hi => by unfold updO; rw [pl_hd hhd (by omega), if_neg (fun y => by have := pl_inj hhd (show i + 1 < cap by omega) (show 0 < cap by omega) (y.trans (pl_0 hhd).symm); omega)]; exact hf (i + 1) (by omega)⟩) dJ19_pollFirst_35
set_option maxRecDepth 100000 in
theorem q_rf (l : Launch) {G : mm_G} {P : mm_H} {H : Heap} {a arr cap hd n : Nat} {es : Nat → Nat} (hQ : DQ G (mm_h H) a arr cap hd n es) (hn1 : 1 ≤ n) : Mt l yJ19_removeFirst (ws_ yJ19_removeFirst cJ19_removeFirst 2 (some (.object "java/lang/Object"))) 2 80 0 0 G P [.ref a] H (fun q => q = a ∨ q = arr) (mm_r (fun b H1 => b = es 0 ∧ DQ G (mm_h H1) a arr cap (inc9 hd cap) (n - 1) (fun j => es (j + 1)))) := by
  refine Mt.of (by decide) (Nat.le_of_ble_eq_true rfl) (fun p e s m below meth c ls hx hb hr hlk hml hown hnm hts hKK hsH hl hS => ?_)
  have hl : lv_has ls 2 [(0, .ref a)] := hl
  obtain ⟨hO, ⟨hhd, hnc, hc20⟩, hnea, f, hA, hf⟩ := hQ
  have hpn := pl_lt hhd (Nat.le_of_lt hnc)
  refine lv_aload_n hx hb dJ19_removeFirst_0 rfl (lv_at hl 0 rfl) ?_
  have hQ1 : DQ G (mm_h H) a arr cap hd n es := ⟨hO, ⟨hhd, hnc, hc20⟩, hnea, f, hA, hf⟩
  refine mm_rr (va_runV (As := []) (rest := []) ⟨hx, hb, hml, hown, hts⟩ (q_pollf l hQ1 hn1) (cwV 0 hts (lw_V q1292 q1293 q1294 q163 q1295) rfl rfl rfl (by decide +kernel) ⟨Nat.le_of_ble_eq_true rfl, Nat.le_of_ble_eq_true rfl⟩) (mm_pV hKK (mm_rc hKK hO mm_le.rf rfl)) rfl rfl hl.1 rfl (lv_room (Nat.le_of_ble_eq_true rfl)) dJ19_removeFirst_1 ⟨Nat.le_of_ble_eq_true rfl, Nat.le_of_ble_eq_true rfl⟩) hS (mm_sS hS) (fun b_1 H_1 L_1 hB_1 hz_1 hq_1 hS => ?_)
  refine lv_astore_n (lv' := [(1, .ref b_1), (0, .ref a)]) hx hb dJ19_removeFirst_4 rfl hl (by decide) rfl (fun ls hl => ?_)
  refine lv_aload_n hx hb dJ19_removeFirst_5 rfl (lv_at hl 0 rfl) ?_
  refine lv_ifnonnull (tgt := 17) hx hb dJ19_removeFirst_6 (by decide) ?_
  refine lv_aload_n hx hb dJ19_removeFirst_17 rfl (lv_at hl 0 rfl) ?_
  exact mm_aret (v := .ref b_1) hx hb hr rfl hlk hS (Nat.le_of_ble_eq_true rfl) (Nat.le_of_ble_eq_true rfl) (Or.inr ⟨_, rfl⟩) (⟨_, rfl, hB_1⟩) dJ19_removeFirst_18
