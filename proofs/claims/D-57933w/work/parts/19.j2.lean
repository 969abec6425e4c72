/-! Strings (printed by tools/jd1.py) -/
set_option maxRecDepth 100000 in
theorem j_coder (l : Launch) {G : mm_G} {P : mm_H} {H : Heap} {a n : Nat} {t : Nat → Nat} (hF : mm_le P (mm_h H)) (hB : mm_bs G H a n t) : Mt l yJ14_coder (ws_ yJ14_coder cJ14_coder 1 (some .byte)) 0 0 0 0 G P [.ref a] H mm_0 (mm_pu (.int (nI 0)) H) := by
  refine Mt.of (by decide) (Nat.le_of_ble_eq_true rfl) (fun p e s m below meth c ls hx hb hr hlk hml hown hnm hts hKK hsH hl hS => ?_)
  have hl : lv_has ls 1 [(0, .ref a)] := hl
  obtain ⟨v1, h1, z1, hO1, hV1⟩ := mm_bs.at hB hKK hF
  obtain ⟨hTv1, hnv1, htv1⟩ := mm_ba.at hV1 hKK hF
  refine mm_gets (v := .int (nI 1)) hx hb hKK.cs hF hown (hts _ q490) (fun _ h9 => h9) dJ14_coder_0 ?_
  refine mm_if_eq (tgt := 13) (by omega) hx hb dJ14_coder_3 (by decide) (fun c_3 => ?_) (fun c_3 => ?_)
  · exact absurd c_3 (by decide)
  · refine lv_aload_n hx hb dJ14_coder_6 rfl (lv_at hl 0 rfl) ?_
    refine mm_get (C := RJ14) (T := TJ14) (N := 4) (ci := 19) (v := .int (nI 0)) hx hb hts in_J14 hown hKK (hO1) mm_le.rf rfl 1 (by decide) (hts _ q632) (fun _ h9 => h9) rfl dJ14_coder_7 ?_
    refine lv_goto (tgt := 14) hx hb dJ14_coder_10 (by decide) ?_
    exact mm_zret (v := nI 0) hx hb hr hlk hS (Nat.le_of_ble_eq_true rfl) (Nat.le_of_ble_eq_true rfl) (rfl) (⟨rfl, rfl⟩) dJ14_coder_14
set_option maxRecDepth 100000 in
theorem j_latin (l : Launch) {G : mm_G} {P : mm_H} {H : Heap} {a n : Nat} {t : Nat → Nat} (hF : mm_le P (mm_h H)) (hB : mm_bs G H a n t) : Mt l yJ14_isLatin1 (ws_ yJ14_isLatin1 cJ14_isLatin1 1 (some .boolean)) 0 0 0 0 G P [.ref a] H mm_0 (mm_pu (.int (mm_b true)) H) := by
  refine Mt.of (by decide) (Nat.le_of_ble_eq_true rfl) (fun p e s m below meth c ls hx hb hr hlk hml hown hnm hts hKK hsH hl hS => ?_)
  have hl : lv_has ls 1 [(0, .ref a)] := hl
  obtain ⟨v1, h1, z1, hO1, hV1⟩ := mm_bs.at hB hKK hF
  obtain ⟨hTv1, hnv1, htv1⟩ := mm_ba.at hV1 hKK hF
  refine mm_gets (v := .int (nI 1)) hx hb hKK.cs hF hown (hts _ q490) (fun _ h9 => h9) dJ14_isLatin1_0 ?_
  refine mm_if_eq (tgt := 17) (by omega) hx hb dJ14_isLatin1_3 (by decide) (fun c_3 => ?_) (fun c_3 => ?_)
  · exact absurd c_3 (by decide)
  · refine lv_aload_n hx hb dJ14_isLatin1_6 rfl (lv_at hl 0 rfl) ?_
    refine mm_get (C := RJ14) (T := TJ14) (N := 4) (ci := 19) (v := .int (nI 0)) hx hb hts in_J14 hown hKK (hO1) mm_le.rf rfl 1 (by decide) (hts _ q632) (fun _ h9 => h9) rfl dJ14_isLatin1_7 ?_
    refine mm_if_ne (tgt := 17) (by omega) hx hb dJ14_isLatin1_10 (by decide) (fun c_10 => ?_) (fun c_10 => ?_)
    · exact absurd c_10 (by decide)
    · refine lv_iconst (v := nI 1) hx hb dJ14_isLatin1_13 (by decide) ?_
      refine mm_top (y := mm_b true) rfl ?_
      refine lv_goto (tgt := 18) hx hb dJ14_isLatin1_14 (by decide) ?_
      exact mm_zret (v := mm_b true) hx hb hr hlk hS (Nat.le_of_ble_eq_true rfl) (Nat.le_of_ble_eq_true rfl) (mm_nb _) (⟨rfl, rfl⟩) dJ14_isLatin1_18
set_option maxRecDepth 100000 in
theorem j_length (l : Launch) {G : mm_G} {P : mm_H} {H : Heap} {a n : Nat} {t : Nat → Nat} (hF : mm_le P (mm_h H)) (hB : mm_bs G H a n t) : Mt l yJ14_length (ws_ yJ14_length cJ14_length 1 (some .int)) 1 22 0 0 G P [.ref a] H mm_0 (mm_pu (.int (nI n)) H) := by
  refine Mt.of (by decide) (Nat.le_of_ble_eq_true rfl) (fun p e s m below meth c ls hx hb hr hlk hml hown hnm hts hKK hsH hl hS => ?_)
  have hl : lv_has ls 1 [(0, .ref a)] := hl
  obtain ⟨v1, h1, z1, hO1, hV1⟩ := mm_bs.at hB hKK hF
  obtain ⟨hTv1, hnv1, htv1⟩ := mm_ba.at hV1 hKK hF
  refine lv_aload_n hx hb dJ14_length_0 rfl (lv_at hl 0 rfl) ?_
  refine mm_get (C := RJ14) (T := TJ14) (N := 4) (ci := 19) (v := .ref v1) hx hb hts in_J14 hown hKK (hO1) mm_le.rf rfl 0 (by decide) (hts _ q631) (fun _ h9 => h9) rfl dJ14_length_1 ?_
  refine mm_Tlen hx hb hTv1 mm_le.rf dJ14_length_4 ?_
  refine lv_aload_n hx hb dJ14_length_5 rfl (lv_at hl 0 rfl) ?_
  refine mm_rpu (va_runV (As := []) (rest := [.int (nI n)]) ⟨hx, hb, hml, hown, hts⟩ (j_coder l hF hB) (cwV 0 hts (lw_V q486 q487 q488 q153 q489) rfl rfl rfl (by decide +kernel) ⟨Nat.le_of_ble_eq_true rfl, Nat.le_of_ble_eq_true rfl⟩) (mm_pV hKK (mm_rcb hKK hO1 mm_le.rf rfl)) rfl rfl hl.1 rfl (lv_room (Nat.le_of_ble_eq_true rfl)) dJ14_length_6 ⟨Nat.le_of_ble_eq_true rfl, Nat.le_of_ble_eq_true rfl⟩) hS (mm_s0 hS) (fun L_6 hS => ?_)
  refine lv_ishr hx hb dJ14_length_9 ?_
  refine mm_top (mm_shr0 n) ?_
  exact mm_iret (v := nI n) hx hb hr hlk hS (Nat.le_of_ble_eq_true rfl) (Nat.le_of_ble_eq_true rfl) (⟨rfl, rfl⟩) dJ14_length_10
set_option maxRecDepth 100000 in
theorem j_pck (l : Launch) {G : mm_G} {P : mm_H} {H : Heap} {i n : Nat} {o : Option Nat} (hi9 : i < n) (hn9 : n < 2 ^ 31) : Mt l yJ16_checkIndex (ws_ yJ16_checkIndex cJ16_checkIndex 3 (some .int)) 0 0 0 0 G P [.int (nI i), .int (nI n), va_rf o] H mm_0 (mm_pu (.int (nI i)) H) := by
  refine Mt.of (by decide) (by cases o <;> exact Nat.le_of_ble_eq_true rfl) (fun p e s m below meth c ls hx hb hr hlk hml hown hnm hts hKK hsH hl hS => ?_)
  have hl : lv_has ls 3 [(0, .int (nI i)), (1, .int (nI n)), (2, va_rf o)] := hl
  refine lv_iload_n hx hb dJ16_checkIndex_0 rfl (lv_at hl 0 rfl) ?_
  refine mm_if_lt (tgt := 9) (by omega) hx hb dJ16_checkIndex_1 (by decide) (fun c_1 => ?_) (fun c_1 => ?_)
  · exact c_1.elim
  · refine lv_iload_n hx hb dJ16_checkIndex_4 rfl (lv_at hl 0 rfl) ?_
    refine lv_iload_n hx hb dJ16_checkIndex_5 rfl (lv_at hl 1 rfl) ?_
    refine mm_icmp_lt (tgt := 16) (by omega) (by omega) hx hb dJ16_checkIndex_6 (by decide) (fun c_6 => ?_) (fun c_6 => ?_)
    · refine lv_iload_n hx hb dJ16_checkIndex_16 rfl (lv_at hl 0 rfl) ?_
      exact mm_iret (v := nI i) hx hb hr hlk hS (Nat.le_of_ble_eq_true rfl) (Nat.le_of_ble_eq_true rfl) (⟨rfl, rfl⟩) dJ16_checkIndex_17
    · exact absurd hi9 (Nat.not_lt.mpr c_6)
set_option maxRecDepth 100000 in
theorem j_sck (l : Launch) {G : mm_G} {P : mm_H} {H : Heap} {i n : Nat} (hF : mm_le P (mm_h H)) (hi9 : i < n) (hn9 : n < 2 ^ 31) : Mt l yJ14_checkIndex (ws_ yJ14_checkIndex cJ14_checkIndex 2 none) 1 24 0 0 G P [.int (nI i), .int (nI n)] H mm_0 (mm_v (fun H1 => H = H1)) := by
  refine Mt.of (by decide) (Nat.le_of_ble_eq_true rfl) (fun p e s m below meth c ls hx hb hr hlk hml hown hnm hts hKK hsH hl hS => ?_)
  have hl : lv_has ls 2 [(0, .int (nI i)), (1, .int (nI n))] := hl
  refine lv_iload_n hx hb dJ14_checkIndex_0 rfl (lv_at hl 0 rfl) ?_
  refine lv_iload_n hx hb dJ14_checkIndex_1 rfl (lv_at hl 1 rfl) ?_
  obtain ⟨o9, hZ9⟩ := hKK.X.2.2.o
  refine mm_gets hx hb hZ9 hF hown (hts _ q468) (fun _ h9 => h9) dJ14_checkIndex_2 ?_
  refine mm_rpu (va_runS (As := [.int (nI i), .int (nI n), va_rf o9]) (rest := []) ⟨hx, hb, hml, hown, hts⟩ (j_pck l (o := o9) (by omega) (by omega)) (va_cwS 3 hts (lw_S q958 q685 q155 q686) rfl rfl rfl (by decide +kernel) ⟨Nat.le_of_ble_eq_true rfl, Nat.le_of_ble_eq_true rfl⟩) (mm_pS hKK) rfl rfl hl.1 rfl (lv_room (Nat.le_of_ble_eq_true rfl)) dJ14_checkIndex_5 ⟨Nat.le_of_ble_eq_true rfl, Nat.le_of_ble_eq_true rfl⟩) hS (mm_s0 hS) (fun L_5 hS => ?_)
  refine lv_pop hx hb dJ14_checkIndex_8 rfl ?_
  exact mm_vret hx hb hr hlk hS (Nat.le_of_ble_eq_true rfl) (Nat.le_of_ble_eq_true rfl) (⟨rfl, rfl⟩) dJ14_checkIndex_9
set_option maxRecDepth 100000 in
theorem j_l1char (l : Launch) {G : mm_G} {P : mm_H} {H : Heap} {v n : Nat} {t : Nat → Nat} {i : Nat} (hF : mm_le P (mm_h H)) (hV : mm_ba G H v n t) (hi9 : i < n) : Mt l yJ17_charAt (ws_ yJ17_charAt cJ17_charAt 2 (some .char)) 2 60 0 0 G P [.ref v, .int (nI i)] H mm_0 (mm_pu (.int (nI (t i))) H) := by
  refine Mt.of (by decide) (Nat.le_of_ble_eq_true rfl) (fun p e s m below meth c ls hx hb hr hlk hml hown hnm hts hKK hsH hl hS => ?_)
  have hl : lv_has ls 2 [(0, .ref v), (1, .int (nI i))] := hl
  obtain ⟨hTv, hnv, htv⟩ := mm_ba.at hV hKK hF
  refine lv_iload_n hx hb dJ17_charAt_0 rfl (lv_at hl 1 rfl) ?_
  refine lv_aload_n hx hb dJ17_charAt_1 rfl (lv_at hl 0 rfl) ?_
  refine mm_Tlen hx hb hTv mm_le.rf dJ17_charAt_2 ?_
  refine mm_rv (va_runS (As := [.int (nI i), .int (nI n)]) (rest := []) ⟨hx, hb, hml, hown, hts⟩ (j_sck l hF (by omega) (by omega)) (va_cwS 2 hts (lw_S q2651 q956 q153 q957) rfl rfl rfl (by decide +kernel) ⟨Nat.le_of_ble_eq_true rfl, Nat.le_of_ble_eq_true rfl⟩) (mm_pS hKK) rfl rfl hl.1 rfl (lv_room (Nat.le_of_ble_eq_true rfl)) dJ17_charAt_3 ⟨Nat.le_of_ble_eq_true rfl, Nat.le_of_ble_eq_true rfl⟩) hS (mm_s0 hS) (fun H_3 L_3 hB_3 _ _ hS => ?_)
  subst hB_3
  refine lv_aload_n hx hb dJ17_charAt_6 rfl (lv_at hl 0 rfl) ?_
  refine lv_iload_n hx hb dJ17_charAt_7 rfl (lv_at hl 1 rfl) ?_
  refine mm_Tbald (k := i) hx hb hTv mm_le.rf (by omega) (by omega) dJ17_charAt_8 ?_
  refine lv_sipush (v := nI 255) hx hb dJ17_charAt_9 (by decide) ?_
  refine lv_iand hx hb dJ17_charAt_12 ?_
  refine lv_i2c hx hb dJ17_charAt_13 rfl ?_
  refine mm_top (mm_chr (htv i (by omega))) ?_
  exact mm_zret (v := nI (t i)) hx hb hr hlk hS (Nat.le_of_ble_eq_true rfl) (Nat.le_of_ble_eq_true rfl) (mm_nc (htv i hi9)) (⟨rfl, rfl⟩) dJ17_charAt_14
set_option maxRecDepth 100000 in
theorem j_charAt (l : Launch) {G : mm_G} {P : mm_H} {H : Heap} {a n : Nat} {t : Nat → Nat} {i : Nat} (hF : mm_le P (mm_h H)) (hB : mm_bs G H a n t) (hi9 : i < n) : Mt l yJ14_charAt (ws_ yJ14_charAt cJ14_charAt 2 (some .char)) 3 90 0 0 G P [.ref a, .int (nI i)] H mm_0 (mm_pu (.int (nI (t i))) H) := by
  refine Mt.of (by decide) (Nat.le_of_ble_eq_true rfl) (fun p e s m below meth c ls hx hb hr hlk hml hown hnm hts hKK hsH hl hS => ?_)
  have hl : lv_has ls 2 [(0, .ref a), (1, .int (nI i))] := hl
  obtain ⟨v1, h1, z1, hO1, hV1⟩ := mm_bs.at hB hKK hF
  obtain ⟨hTv1, hnv1, htv1⟩ := mm_ba.at hV1 hKK hF
  refine lv_aload_n hx hb dJ14_charAt_0 rfl (lv_at hl 0 rfl) ?_
  refine mm_rpu (va_runV (As := []) (rest := []) ⟨hx, hb, hml, hown, hts⟩ (j_latin l hF hB) (cwV 0 hts (lw_V q1110 q1111 q1112 q153 q1113) rfl rfl rfl (by decide +kernel) ⟨Nat.le_of_ble_eq_true rfl, Nat.le_of_ble_eq_true rfl⟩) (mm_pV hKK (mm_rcb hKK hO1 mm_le.rf rfl)) rfl rfl hl.1 rfl (lv_room (Nat.le_of_ble_eq_true rfl)) dJ14_charAt_1 ⟨Nat.le_of_ble_eq_true rfl, Nat.le_of_ble_eq_true rfl⟩) hS (mm_s0 hS) (fun L_1 hS => ?_)
  refine mm_ifeqB (tgt := 16) hx hb dJ14_charAt_4 (by decide) (fun c_4 => ?_) (fun c_4 => ?_)
  · exact absurd c_4 (by decide)
  · refine lv_aload_n hx hb dJ14_charAt_7 rfl (lv_at hl 0 rfl) ?_
    refine mm_get (C := RJ14) (T := TJ14) (N := 4) (ci := 19) (v := .ref v1) hx hb hts in_J14 hown hKK (hO1) mm_le.rf rfl 0 (by decide) (hts _ q631) (fun _ h9 => h9) rfl dJ14_charAt_8 ?_
    refine lv_iload_n hx hb dJ14_charAt_11 rfl (lv_at hl 1 rfl) ?_
    refine mm_rpu (va_runS (As := [.ref v1, .int (nI i)]) (rest := []) ⟨hx, hb, hml, hown, hts⟩ (j_l1char l hF hV1 (by omega)) (va_cwS 2 hts (lw_S q2648 q2649 q156 q2650) rfl rfl rfl (by decide +kernel) ⟨Nat.le_of_ble_eq_true rfl, Nat.le_of_ble_eq_true rfl⟩) (mm_pS hKK) rfl rfl hl.1 rfl (lv_room (Nat.le_of_ble_eq_true rfl)) dJ14_charAt_12 ⟨Nat.le_of_ble_eq_true rfl, Nat.le_of_ble_eq_true rfl⟩) hS (mm_s0 hS) (fun L_12 hS => ?_)
    exact mm_zret (v := nI (t i)) hx hb hr hlk hS (Nat.le_of_ble_eq_true rfl) (Nat.le_of_ble_eq_true rfl) (mm_nc (htv1 i hi9)) (⟨rfl, rfl⟩) dJ14_charAt_15
