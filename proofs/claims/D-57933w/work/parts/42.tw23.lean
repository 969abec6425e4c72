/-! the twin: statements executed (printed by tools/tw23.py) -/
section EX
variable {S : sp_S} {v i : Nat} {y : Int32}
theorem ex1_0t (h : lvN S v = true ∧ i < s_len S v ∧ s_nv S < 40) : ex1 S (0, v, i, y) = some (setOp S v i y) := if_pos h
theorem ex1_0f (h : ¬ (lvN S v = true ∧ i < s_len S v ∧ s_nv S < 40)) : ex1 S (0, v, i, y) = none := if_neg h
theorem ex1_1t (h : lvN S v = true ∧ s_len S v ≠ 64 ∧ s_nv S < 40) : ex1 S (1, v, i, y) = some (appOp S v y) := if_pos h
theorem ex1_1f (h : ¬ (lvN S v = true ∧ s_len S v ≠ 64 ∧ s_nv S < 40)) : ex1 S (1, v, i, y) = none := if_neg h
theorem ex1_2t (h : lvN S v = true ∧ i ≤ s_len S v ∧ s_nv S < 40) : ex1 S (2, v, i, y) = some (cutOp S v i) := if_pos h
theorem ex1_2f (h : ¬ (lvN S v = true ∧ i ≤ s_len S v ∧ s_nv S < 40)) : ex1 S (2, v, i, y) = none := if_neg h
theorem ex1_3t (h : lvN S v = true) : ex1 S (3, v, i, y) = some (setR S v) := if_pos h
theorem ex1_3f (h : lvN S v = false) : ex1 S (3, v, i, y) = none := if_neg (by rw [h]; decide)
end EX
set_option maxRecDepth 100000 in
theorem t_executeSet (l : Launch) {G : mm_G} {P : mm_H} {H : Heap} {x : Nat} {ad : Nat → Nat} {I : Nat → Int32} {F : Nat → Nat → Int32} {S : sp_S} {v i : Nat} {y : Int32} (hT : TW G x ad I F H) (hR : TR (F 0) S) (hW : WF S) (hXI : XI S) (hv39 : v ≤ 39) (hi64 : i ≤ 64) : Mt l yX8_executeSet (ws_ yX8_executeSet cX8_executeSet 4 (some .boolean)) 18 1300 0 0 G P [.ref x, .int (nI v), .int (nI i), .int y] H (tw_M x ad) (mm_i (mm_b (ex1 S (0, v, i, y)).isSome) (fun H2 => ∃ F2, TW G x ad I F2 H2 ∧ eqx [0, 7] F F2 ∧ TR (F2 0) ((ex1 S (0, v, i, y)).getD S))) := by
  refine Mt.of (by decide) (Nat.le_of_ble_eq_true rfl) (fun p e s m below meth c ls hx hb hr hlk hml hown hnm hts hKK hsH hl hS => ?_)
  have hl : lv_has ls 4 [(0, .ref x), (1, .int (nI v)), (2, .int (nI i)), (3, .int y)] := hl
  have hR0 := hR
  have hMx : mm_A (tw_M x ad) H x := Or.inl (Or.inl rfl)
  have hMa : ∀ j, tw_isA j = true → mm_A (tw_M x ad) H (ad j) := fun j hj => Or.inl (Or.inr ⟨j, hj, rfl⟩)
  have hnv := hW.nv
  have hnn := hW.nn
  have h1n := hXI.2.2.1
  have hRg := hXI.rg
  have hn9 := hXI.n9
  refine lv_aload_n hx hb dX8_executeSet_0 rfl (lv_at hl 0 rfl) ?_
  refine lv_iload_n hx hb dX8_executeSet_1 rfl (lv_at hl 1 rfl) ?_
  refine mm_rpu (va_runV (As := [.int (nI v)]) (rest := []) ⟨hx, hb, hml, hown, hts⟩ (t_isLive l hT hR hW) (cwV 1 hts (lw_V q2709 q2711 qs80 q164 q2712) rfl rfl rfl (by decide +kernel) ⟨Nat.le_of_ble_eq_true rfl, Nat.le_of_ble_eq_true rfl⟩) (mm_pV hKK (mm_rc hKK hT.2.1 mm_le.rf rfl)) rfl rfl hl.1 rfl (lv_room (Nat.le_of_ble_eq_true rfl)) dX8_executeSet_2 ⟨Nat.le_of_ble_eq_true rfl, Nat.le_of_ble_eq_true rfl⟩) hS (mm_s0 hS) (fun L_2 hS => ?_)
  refine mm_top (y := mm_b (lvN S v)) (congrArg mm_b (isLv_N (by omega) hnv)) ?_
  refine mm_ifeqB (tgt := 24) hx hb dX8_executeSet_5 (by decide) (fun c_5 => ?_) (fun c_5 => ?_)
  · refine lv_iconst (v := nI 0) hx hb dX8_executeSet_24 (by decide) ?_
    refine mm_top (y := mm_b false) rfl ?_
    exact mm_zret (v := mm_b false) hx hb hr hlk hS (Nat.le_of_ble_eq_true rfl) (Nat.le_of_ble_eq_true rfl) (mm_nb _) (⟨by rw [ex1_0f (by intro z; first | exact absurd (z.1.symm.trans c_5) (by decide) | exact absurd z.2.1 (by omega) | exact absurd ((decide_eq_true z.2.2).symm.trans c_21) (by decide))]; rfl, F, hT, eqx.rf, by rw [ex1_0f (by intro z; first | exact absurd (z.1.symm.trans c_5) (by decide) | exact absurd z.2.1 (by omega) | exact absurd ((decide_eq_true z.2.2).symm.trans c_21) (by decide))]; exact hR⟩) dX8_executeSet_25
  · obtain ⟨hv9, hl9⟩ := lvN_t c_5
    have hlen9 := hW.len hv9
    refine lv_iload_n hx hb dX8_executeSet_8 rfl (lv_at hl 2 rfl) ?_
    refine lv_aload_n hx hb dX8_executeSet_9 rfl (lv_at hl 0 rfl) ?_
    refine lv_iload_n hx hb dX8_executeSet_10 rfl (lv_at hl 1 rfl) ?_
    refine mm_rpu (va_runV (As := [.int (nI v)]) (rest := [.int (nI i)]) ⟨hx, hb, hml, hown, hts⟩ (t_lengthOf l hT hR hW (by first | assumption | omega)) (cwV 1 hts (lw_V q2487 q2489 qs60 q164 q2490) rfl rfl rfl (by decide +kernel) ⟨Nat.le_of_ble_eq_true rfl, Nat.le_of_ble_eq_true rfl⟩) (mm_pV hKK (mm_rc hKK hT.2.1 mm_le.rf rfl)) rfl rfl hl.1 rfl (lv_room (Nat.le_of_ble_eq_true rfl)) dX8_executeSet_11 ⟨Nat.le_of_ble_eq_true rfl, Nat.le_of_ble_eq_true rfl⟩) hS (mm_s0 hS) (fun L_11 hS => ?_)
    refine mm_icmp_ge (tgt := 24) (by omega) (by omega) hx hb dX8_executeSet_14 (by decide) (fun c_14 => ?_) (fun c_14 => ?_)
    · refine lv_iconst (v := nI 0) hx hb dX8_executeSet_24 (by decide) ?_
      refine mm_top (y := mm_b false) rfl ?_
      exact mm_zret (v := mm_b false) hx hb hr hlk hS (Nat.le_of_ble_eq_true rfl) (Nat.le_of_ble_eq_true rfl) (mm_nb _) (⟨by rw [ex1_0f (by intro z; first | exact absurd (z.1.symm.trans c_5) (by decide) | exact absurd z.2.1 (by omega) | exact absurd ((decide_eq_true z.2.2).symm.trans c_21) (by decide))]; rfl, F, hT, eqx.rf, by rw [ex1_0f (by intro z; first | exact absurd (z.1.symm.trans c_5) (by decide) | exact absurd z.2.1 (by omega) | exact absurd ((decide_eq_true z.2.2).symm.trans c_21) (by decide))]; exact hR⟩) dX8_executeSet_25
    · refine lv_aload_n hx hb dX8_executeSet_17 rfl (lv_at hl 0 rfl) ?_
      refine mm_rpu (va_runV (As := []) (rest := []) ⟨hx, hb, hml, hown, hts⟩ (t_hasRoom l hT hR hW) (cwV 0 hts (lw_V q2721 q2723 qs83 q164 q2724) rfl rfl rfl (by decide +kernel) ⟨Nat.le_of_ble_eq_true rfl, Nat.le_of_ble_eq_true rfl⟩) (mm_pV hKK (mm_rc hKK hT.2.1 mm_le.rf rfl)) rfl rfl hl.1 rfl (lv_room (Nat.le_of_ble_eq_true rfl)) dX8_executeSet_18 ⟨Nat.le_of_ble_eq_true rfl, Nat.le_of_ble_eq_true rfl⟩) hS (mm_s0 hS) (fun L_18 hS => ?_)
      refine mm_top (y := mm_b (room S)) rfl ?_
      refine mm_ifneB (tgt := 26) hx hb dX8_executeSet_21 (by decide) (fun c_21 => ?_) (fun c_21 => ?_)
      · have h40 := of_decide_eq_true c_21
        refine lv_aload_n hx hb dX8_executeSet_26 rfl (lv_at hl 0 rfl) ?_
        refine lv_iload_n hx hb dX8_executeSet_27 rfl (lv_at hl 1 rfl) ?_
        refine lv_iload_n hx hb dX8_executeSet_28 rfl (lv_at hl 2 rfl) ?_
        refine lv_iload_n hx hb dX8_executeSet_29 rfl (lv_at hl 3 rfl) ?_
        refine mm_ri (va_runV (As := [.int (nI v), .int (nI i), .int y]) (rest := []) ⟨hx, hb, hml, hown, hts⟩ (t_makeSet l hT hR hW hRg hv9 hl9 h40 hn9 (by omega)) (cwV 3 hts (lw_V q2725 q2727 qs84 q164 q2728) rfl rfl rfl (by decide +kernel) ⟨Nat.le_of_ble_eq_true rfl, Nat.le_of_ble_eq_true rfl⟩) (mm_pV hKK (mm_rc hKK hT.2.1 mm_le.rf rfl)) rfl rfl hl.1 rfl (lv_room (Nat.le_of_ble_eq_true rfl)) dX8_executeSet_30 ⟨Nat.le_of_ble_eq_true rfl, Nat.le_of_ble_eq_true rfl⟩) hS (mm_sS hS) (fun H_30 L_30 hB_30 hz_30 hq_30 hS => ?_)
        obtain ⟨F_30, hT, he_30, hR⟩ := hB_30
        refine mm_if_le (tgt := 40) (by omega) hx hb dX8_executeSet_33 (by decide) (fun c_33 => ?_) (fun c_33 => ?_)
        · exfalso; omega
        · refine lv_iconst (v := nI 1) hx hb dX8_executeSet_36 (by decide) ?_
          refine mm_top (y := mm_b true) rfl ?_
          refine lv_goto (tgt := 41) hx hb dX8_executeSet_37 (by decide) ?_
          exact mm_zret (v := mm_b true) hx hb hr hlk hS (Nat.le_of_ble_eq_true rfl) (Nat.le_of_ble_eq_true rfl) (mm_nb _) (⟨by rw [ex1_0t ⟨c_5, by omega, of_decide_eq_true c_21⟩]; rfl, F_30, hT, he_30, by rw [ex1_0t ⟨c_5, by omega, of_decide_eq_true c_21⟩]; exact hR⟩) dX8_executeSet_41
      · refine lv_iconst (v := nI 0) hx hb dX8_executeSet_24 (by decide) ?_
        refine mm_top (y := mm_b false) rfl ?_
        exact mm_zret (v := mm_b false) hx hb hr hlk hS (Nat.le_of_ble_eq_true rfl) (Nat.le_of_ble_eq_true rfl) (mm_nb _) (⟨by rw [ex1_0f (by intro z; first | exact absurd (z.1.symm.trans c_5) (by decide) | exact absurd z.2.1 (by omega) | exact absurd ((decide_eq_true z.2.2).symm.trans c_21) (by decide))]; rfl, F, hT, eqx.rf, by rw [ex1_0f (by intro z; first | exact absurd (z.1.symm.trans c_5) (by decide) | exact absurd z.2.1 (by omega) | exact absurd ((decide_eq_true z.2.2).symm.trans c_21) (by decide))]; exact hR⟩) dX8_executeSet_25
set_option maxRecDepth 100000 in
theorem t_executeAppend (l : Launch) {G : mm_G} {P : mm_H} {H : Heap} {x : Nat} {ad : Nat → Nat} {I : Nat → Int32} {F : Nat → Nat → Int32} {S : sp_S} {v i : Nat} {y : Int32} (hT : TW G x ad I F H) (hR : TR (F 0) S) (hW : WF S) (hXI : XI S) (hv39 : v ≤ 39) : Mt l yX8_executeAppend (ws_ yX8_executeAppend cX8_executeAppend 3 (some .boolean)) 18 1300 0 0 G P [.ref x, .int (nI v), .int y] H (tw_M x ad) (mm_i (mm_b (ex1 S (1, v, i, y)).isSome) (fun H2 => ∃ F2, TW G x ad I F2 H2 ∧ eqx [0, 7] F F2 ∧ TR (F2 0) ((ex1 S (1, v, i, y)).getD S))) := by
  refine Mt.of (by decide) (Nat.le_of_ble_eq_true rfl) (fun p e s m below meth c ls hx hb hr hlk hml hown hnm hts hKK hsH hl hS => ?_)
  have hl : lv_has ls 3 [(0, .ref x), (1, .int (nI v)), (2, .int y)] := hl
  have hR0 := hR
  have hMx : mm_A (tw_M x ad) H x := Or.inl (Or.inl rfl)
  have hMa : ∀ j, tw_isA j = true → mm_A (tw_M x ad) H (ad j) := fun j hj => Or.inl (Or.inr ⟨j, hj, rfl⟩)
  have hnv := hW.nv
  have hnn := hW.nn
  have h1n := hXI.2.2.1
  have hRg := hXI.rg
  have hn9 := hXI.n9
  refine lv_aload_n hx hb dX8_executeAppend_0 rfl (lv_at hl 0 rfl) ?_
  refine lv_iload_n hx hb dX8_executeAppend_1 rfl (lv_at hl 1 rfl) ?_
  refine mm_rpu (va_runV (As := [.int (nI v)]) (rest := []) ⟨hx, hb, hml, hown, hts⟩ (t_isLive l hT hR hW) (cwV 1 hts (lw_V q2709 q2711 qs80 q164 q2712) rfl rfl rfl (by decide +kernel) ⟨Nat.le_of_ble_eq_true rfl, Nat.le_of_ble_eq_true rfl⟩) (mm_pV hKK (mm_rc hKK hT.2.1 mm_le.rf rfl)) rfl rfl hl.1 rfl (lv_room (Nat.le_of_ble_eq_true rfl)) dX8_executeAppend_2 ⟨Nat.le_of_ble_eq_true rfl, Nat.le_of_ble_eq_true rfl⟩) hS (mm_s0 hS) (fun L_2 hS => ?_)
  refine mm_top (y := mm_b (lvN S v)) (congrArg mm_b (isLv_N (by omega) hnv)) ?_
  refine mm_ifeqB (tgt := 25) hx hb dX8_executeAppend_5 (by decide) (fun c_5 => ?_) (fun c_5 => ?_)
  · refine lv_iconst (v := nI 0) hx hb dX8_executeAppend_25 (by decide) ?_
    refine mm_top (y := mm_b false) rfl ?_
    exact mm_zret (v := mm_b false) hx hb hr hlk hS (Nat.le_of_ble_eq_true rfl) (Nat.le_of_ble_eq_true rfl) (mm_nb _) (⟨by rw [ex1_1f (by intro z; first | exact absurd (z.1.symm.trans c_5) (by decide) | exact absurd z.2.1 (by omega) | exact absurd ((decide_eq_true z.2.2).symm.trans c_22) (by decide))]; rfl, F, hT, eqx.rf, by rw [ex1_1f (by intro z; first | exact absurd (z.1.symm.trans c_5) (by decide) | exact absurd z.2.1 (by omega) | exact absurd ((decide_eq_true z.2.2).symm.trans c_22) (by decide))]; exact hR⟩) dX8_executeAppend_26
  · obtain ⟨hv9, hl9⟩ := lvN_t c_5
    have hlen9 := hW.len hv9
    refine lv_aload_n hx hb dX8_executeAppend_8 rfl (lv_at hl 0 rfl) ?_
    refine lv_iload_n hx hb dX8_executeAppend_9 rfl (lv_at hl 1 rfl) ?_
    refine mm_rpu (va_runV (As := [.int (nI v)]) (rest := []) ⟨hx, hb, hml, hown, hts⟩ (t_lengthOf l hT hR hW (by first | assumption | omega)) (cwV 1 hts (lw_V q2487 q2489 qs60 q164 q2490) rfl rfl rfl (by decide +kernel) ⟨Nat.le_of_ble_eq_true rfl, Nat.le_of_ble_eq_true rfl⟩) (mm_pV hKK (mm_rc hKK hT.2.1 mm_le.rf rfl)) rfl rfl hl.1 rfl (lv_room (Nat.le_of_ble_eq_true rfl)) dX8_executeAppend_10 ⟨Nat.le_of_ble_eq_true rfl, Nat.le_of_ble_eq_true rfl⟩) hS (mm_s0 hS) (fun L_10 hS => ?_)
    refine lv_bipush (v := nI 64) hx hb dX8_executeAppend_13 (by decide) ?_
    refine mm_icmp_eq (tgt := 25) (by omega) (by omega) hx hb dX8_executeAppend_15 (by decide) (fun c_15 => ?_) (fun c_15 => ?_)
    · refine lv_iconst (v := nI 0) hx hb dX8_executeAppend_25 (by decide) ?_
      refine mm_top (y := mm_b false) rfl ?_
      exact mm_zret (v := mm_b false) hx hb hr hlk hS (Nat.le_of_ble_eq_true rfl) (Nat.le_of_ble_eq_true rfl) (mm_nb _) (⟨by rw [ex1_1f (by intro z; first | exact absurd (z.1.symm.trans c_5) (by decide) | exact absurd z.2.1 (by omega) | exact absurd ((decide_eq_true z.2.2).symm.trans c_22) (by decide))]; rfl, F, hT, eqx.rf, by rw [ex1_1f (by intro z; first | exact absurd (z.1.symm.trans c_5) (by decide) | exact absurd z.2.1 (by omega) | exact absurd ((decide_eq_true z.2.2).symm.trans c_22) (by decide))]; exact hR⟩) dX8_executeAppend_26
    · refine lv_aload_n hx hb dX8_executeAppend_18 rfl (lv_at hl 0 rfl) ?_
      refine mm_rpu (va_runV (As := []) (rest := []) ⟨hx, hb, hml, hown, hts⟩ (t_hasRoom l hT hR hW) (cwV 0 hts (lw_V q2721 q2723 qs83 q164 q2724) rfl rfl rfl (by decide +kernel) ⟨Nat.le_of_ble_eq_true rfl, Nat.le_of_ble_eq_true rfl⟩) (mm_pV hKK (mm_rc hKK hT.2.1 mm_le.rf rfl)) rfl rfl hl.1 rfl (lv_room (Nat.le_of_ble_eq_true rfl)) dX8_executeAppend_19 ⟨Nat.le_of_ble_eq_true rfl, Nat.le_of_ble_eq_true rfl⟩) hS (mm_s0 hS) (fun L_19 hS => ?_)
      refine mm_top (y := mm_b (room S)) rfl ?_
      refine mm_ifneB (tgt := 27) hx hb dX8_executeAppend_22 (by decide) (fun c_22 => ?_) (fun c_22 => ?_)
      · have h40 := of_decide_eq_true c_22
        refine lv_aload_n hx hb dX8_executeAppend_27 rfl (lv_at hl 0 rfl) ?_
        refine lv_iload_n hx hb dX8_executeAppend_28 rfl (lv_at hl 1 rfl) ?_
        refine lv_iload_n hx hb dX8_executeAppend_29 rfl (lv_at hl 2 rfl) ?_
        refine mm_ri (va_runV (As := [.int (nI v), .int y]) (rest := []) ⟨hx, hb, hml, hown, hts⟩ (t_makeAppend l hT hR hW hRg hv9 hl9 h40 hn9 (by have := hW.len hv9; omega)) (cwV 2 hts (lw_V q2761 q2763 qs93 q164 q2764) rfl rfl rfl (by decide +kernel) ⟨Nat.le_of_ble_eq_true rfl, Nat.le_of_ble_eq_true rfl⟩) (mm_pV hKK (mm_rc hKK hT.2.1 mm_le.rf rfl)) rfl rfl hl.1 rfl (lv_room (Nat.le_of_ble_eq_true rfl)) dX8_executeAppend_30 ⟨Nat.le_of_ble_eq_true rfl, Nat.le_of_ble_eq_true rfl⟩) hS (mm_sS hS) (fun H_30 L_30 hB_30 hz_30 hq_30 hS => ?_)
        obtain ⟨F_30, hT, he_30, hR⟩ := hB_30
        refine mm_if_le (tgt := 40) (by omega) hx hb dX8_executeAppend_33 (by decide) (fun c_33 => ?_) (fun c_33 => ?_)
        · exfalso; omega
        · refine lv_iconst (v := nI 1) hx hb dX8_executeAppend_36 (by decide) ?_
          refine mm_top (y := mm_b true) rfl ?_
          refine lv_goto (tgt := 41) hx hb dX8_executeAppend_37 (by decide) ?_
          exact mm_zret (v := mm_b true) hx hb hr hlk hS (Nat.le_of_ble_eq_true rfl) (Nat.le_of_ble_eq_true rfl) (mm_nb _) (⟨by rw [ex1_1t ⟨c_5, by omega, of_decide_eq_true c_22⟩]; rfl, F_30, hT, he_30, by rw [ex1_1t ⟨c_5, by omega, of_decide_eq_true c_22⟩]; exact hR⟩) dX8_executeAppend_41
      · refine lv_iconst (v := nI 0) hx hb dX8_executeAppend_25 (by decide) ?_
        refine mm_top (y := mm_b false) rfl ?_
        exact mm_zret (v := mm_b false) hx hb hr hlk hS (Nat.le_of_ble_eq_true rfl) (Nat.le_of_ble_eq_true rfl) (mm_nb _) (⟨by rw [ex1_1f (by intro z; first | exact absurd (z.1.symm.trans c_5) (by decide) | exact absurd z.2.1 (by omega) | exact absurd ((decide_eq_true z.2.2).symm.trans c_22) (by decide))]; rfl, F, hT, eqx.rf, by rw [ex1_1f (by intro z; first | exact absurd (z.1.symm.trans c_5) (by decide) | exact absurd z.2.1 (by omega) | exact absurd ((decide_eq_true z.2.2).symm.trans c_22) (by decide))]; exact hR⟩) dX8_executeAppend_26
set_option maxRecDepth 100000 in
theorem t_executeTruncate (l : Launch) {G : mm_G} {P : mm_H} {H : Heap} {x : Nat} {ad : Nat → Nat} {I : Nat → Int32} {F : Nat → Nat → Int32} {S : sp_S} {v i : Nat} {y : Int32} (hT : TW G x ad I F H) (hR : TR (F 0) S) (hW : WF S) (hXI : XI S) (hv39 : v ≤ 39) (hi64 : i ≤ 64) : Mt l yX8_executeTruncate (ws_ yX8_executeTruncate cX8_executeTruncate 3 (some .boolean)) 18 1300 0 0 G P [.ref x, .int (nI v), .int (nI i)] H (tw_M x ad) (mm_i (mm_b (ex1 S (2, v, i, y)).isSome) (fun H2 => ∃ F2, TW G x ad I F2 H2 ∧ eqx [0, 7] F F2 ∧ TR (F2 0) ((ex1 S (2, v, i, y)).getD S))) := by
  refine Mt.of (by decide) (Nat.le_of_ble_eq_true rfl) (fun p e s m below meth c ls hx hb hr hlk hml hown hnm hts hKK hsH hl hS => ?_)
  have hl : lv_has ls 3 [(0, .ref x), (1, .int (nI v)), (2, .int (nI i))] := hl
  have hR0 := hR
  have hMx : mm_A (tw_M x ad) H x := Or.inl (Or.inl rfl)
  have hMa : ∀ j, tw_isA j = true → mm_A (tw_M x ad) H (ad j) := fun j hj => Or.inl (Or.inr ⟨j, hj, rfl⟩)
  have hnv := hW.nv
  have hnn := hW.nn
  have h1n := hXI.2.2.1
  have hRg := hXI.rg
  have hn9 := hXI.n9
  refine lv_aload_n hx hb dX8_executeTruncate_0 rfl (lv_at hl 0 rfl) ?_
  refine lv_iload_n hx hb dX8_executeTruncate_1 rfl (lv_at hl 1 rfl) ?_
  refine mm_rpu (va_runV (As := [.int (nI v)]) (rest := []) ⟨hx, hb, hml, hown, hts⟩ (t_isLive l hT hR hW) (cwV 1 hts (lw_V q2709 q2711 qs80 q164 q2712) rfl rfl rfl (by decide +kernel) ⟨Nat.le_of_ble_eq_true rfl, Nat.le_of_ble_eq_true rfl⟩) (mm_pV hKK (mm_rc hKK hT.2.1 mm_le.rf rfl)) rfl rfl hl.1 rfl (lv_room (Nat.le_of_ble_eq_true rfl)) dX8_executeTruncate_2 ⟨Nat.le_of_ble_eq_true rfl, Nat.le_of_ble_eq_true rfl⟩) hS (mm_s0 hS) (fun L_2 hS => ?_)
  refine mm_top (y := mm_b (lvN S v)) (congrArg mm_b (isLv_N (by omega) hnv)) ?_
  refine mm_ifeqB (tgt := 24) hx hb dX8_executeTruncate_5 (by decide) (fun c_5 => ?_) (fun c_5 => ?_)
  · refine lv_iconst (v := nI 0) hx hb dX8_executeTruncate_24 (by decide) ?_
    refine mm_top (y := mm_b false) rfl ?_
    exact mm_zret (v := mm_b false) hx hb hr hlk hS (Nat.le_of_ble_eq_true rfl) (Nat.le_of_ble_eq_true rfl) (mm_nb _) (⟨by rw [ex1_2f (by intro z; first | exact absurd (z.1.symm.trans c_5) (by decide) | exact absurd z.2.1 (by omega) | exact absurd ((decide_eq_true z.2.2).symm.trans c_21) (by decide))]; rfl, F, hT, eqx.rf, by rw [ex1_2f (by intro z; first | exact absurd (z.1.symm.trans c_5) (by decide) | exact absurd z.2.1 (by omega) | exact absurd ((decide_eq_true z.2.2).symm.trans c_21) (by decide))]; exact hR⟩) dX8_executeTruncate_25
  · obtain ⟨hv9, hl9⟩ := lvN_t c_5
    have hlen9 := hW.len hv9
    refine lv_iload_n hx hb dX8_executeTruncate_8 rfl (lv_at hl 2 rfl) ?_
    refine lv_aload_n hx hb dX8_executeTruncate_9 rfl (lv_at hl 0 rfl) ?_
    refine lv_iload_n hx hb dX8_executeTruncate_10 rfl (lv_at hl 1 rfl) ?_
    refine mm_rpu (va_runV (As := [.int (nI v)]) (rest := [.int (nI i)]) ⟨hx, hb, hml, hown, hts⟩ (t_lengthOf l hT hR hW (by first | assumption | omega)) (cwV 1 hts (lw_V q2487 q2489 qs60 q164 q2490) rfl rfl rfl (by decide +kernel) ⟨Nat.le_of_ble_eq_true rfl, Nat.le_of_ble_eq_true rfl⟩) (mm_pV hKK (mm_rc hKK hT.2.1 mm_le.rf rfl)) rfl rfl hl.1 rfl (lv_room (Nat.le_of_ble_eq_true rfl)) dX8_executeTruncate_11 ⟨Nat.le_of_ble_eq_true rfl, Nat.le_of_ble_eq_true rfl⟩) hS (mm_s0 hS) (fun L_11 hS => ?_)
    refine mm_icmp_gt (tgt := 24) (by omega) (by omega) hx hb dX8_executeTruncate_14 (by decide) (fun c_14 => ?_) (fun c_14 => ?_)
    · refine lv_iconst (v := nI 0) hx hb dX8_executeTruncate_24 (by decide) ?_
      refine mm_top (y := mm_b false) rfl ?_
      exact mm_zret (v := mm_b false) hx hb hr hlk hS (Nat.le_of_ble_eq_true rfl) (Nat.le_of_ble_eq_true rfl) (mm_nb _) (⟨by rw [ex1_2f (by intro z; first | exact absurd (z.1.symm.trans c_5) (by decide) | exact absurd z.2.1 (by omega) | exact absurd ((decide_eq_true z.2.2).symm.trans c_21) (by decide))]; rfl, F, hT, eqx.rf, by rw [ex1_2f (by intro z; first | exact absurd (z.1.symm.trans c_5) (by decide) | exact absurd z.2.1 (by omega) | exact absurd ((decide_eq_true z.2.2).symm.trans c_21) (by decide))]; exact hR⟩) dX8_executeTruncate_25
    · refine lv_aload_n hx hb dX8_executeTruncate_17 rfl (lv_at hl 0 rfl) ?_
      refine mm_rpu (va_runV (As := []) (rest := []) ⟨hx, hb, hml, hown, hts⟩ (t_hasRoom l hT hR hW) (cwV 0 hts (lw_V q2721 q2723 qs83 q164 q2724) rfl rfl rfl (by decide +kernel) ⟨Nat.le_of_ble_eq_true rfl, Nat.le_of_ble_eq_true rfl⟩) (mm_pV hKK (mm_rc hKK hT.2.1 mm_le.rf rfl)) rfl rfl hl.1 rfl (lv_room (Nat.le_of_ble_eq_true rfl)) dX8_executeTruncate_18 ⟨Nat.le_of_ble_eq_true rfl, Nat.le_of_ble_eq_true rfl⟩) hS (mm_s0 hS) (fun L_18 hS => ?_)
      refine mm_top (y := mm_b (room S)) rfl ?_
      refine mm_ifneB (tgt := 26) hx hb dX8_executeTruncate_21 (by decide) (fun c_21 => ?_) (fun c_21 => ?_)
      · have h40 := of_decide_eq_true c_21
        refine lv_aload_n hx hb dX8_executeTruncate_26 rfl (lv_at hl 0 rfl) ?_
        refine lv_iload_n hx hb dX8_executeTruncate_27 rfl (lv_at hl 1 rfl) ?_
        refine lv_iload_n hx hb dX8_executeTruncate_28 rfl (lv_at hl 2 rfl) ?_
        refine mm_ri (va_runV (As := [.int (nI v), .int (nI i)]) (rest := []) ⟨hx, hb, hml, hown, hts⟩ (t_makeTruncate l hT hR hW hRg hv9 hl9 h40 hn9 (by omega)) (cwV 2 hts (lw_V q2777 q2779 qs97 q164 q2780) rfl rfl rfl (by decide +kernel) ⟨Nat.le_of_ble_eq_true rfl, Nat.le_of_ble_eq_true rfl⟩) (mm_pV hKK (mm_rc hKK hT.2.1 mm_le.rf rfl)) rfl rfl hl.1 rfl (lv_room (Nat.le_of_ble_eq_true rfl)) dX8_executeTruncate_29 ⟨Nat.le_of_ble_eq_true rfl, Nat.le_of_ble_eq_true rfl⟩) hS (mm_sS hS) (fun H_29 L_29 hB_29 hz_29 hq_29 hS => ?_)
        obtain ⟨F_29, hT, he_29, hR⟩ := hB_29
        refine mm_if_le (tgt := 39) (by omega) hx hb dX8_executeTruncate_32 (by decide) (fun c_32 => ?_) (fun c_32 => ?_)
        · exfalso; omega
        · refine lv_iconst (v := nI 1) hx hb dX8_executeTruncate_35 (by decide) ?_
          refine mm_top (y := mm_b true) rfl ?_
          refine lv_goto (tgt := 40) hx hb dX8_executeTruncate_36 (by decide) ?_
          exact mm_zret (v := mm_b true) hx hb hr hlk hS (Nat.le_of_ble_eq_true rfl) (Nat.le_of_ble_eq_true rfl) (mm_nb _) (⟨by rw [ex1_2t ⟨c_5, by omega, of_decide_eq_true c_21⟩]; rfl, F_29, hT, he_29, by rw [ex1_2t ⟨c_5, by omega, of_decide_eq_true c_21⟩]; exact hR⟩) dX8_executeTruncate_40
      · refine lv_iconst (v := nI 0) hx hb dX8_executeTruncate_24 (by decide) ?_
        refine mm_top (y := mm_b false) rfl ?_
        exact mm_zret (v := mm_b false) hx hb hr hlk hS (Nat.le_of_ble_eq_true rfl) (Nat.le_of_ble_eq_true rfl) (mm_nb _) (⟨by rw [ex1_2f (by intro z; first | exact absurd (z.1.symm.trans c_5) (by decide) | exact absurd z.2.1 (by omega) | exact absurd ((decide_eq_true z.2.2).symm.trans c_21) (by decide))]; rfl, F, hT, eqx.rf, by rw [ex1_2f (by intro z; first | exact absurd (z.1.symm.trans c_5) (by decide) | exact absurd z.2.1 (by omega) | exact absurd ((decide_eq_true z.2.2).symm.trans c_21) (by decide))]; exact hR⟩) dX8_executeTruncate_25
set_option maxRecDepth 100000 in
theorem t_execute (l : Launch) {G : mm_G} {P : mm_H} {H : Heap} {x : Nat} {ad : Nat → Nat} {I : Nat → Int32} {F : Nat → Nat → Int32} {S : sp_S} {i9 : Nat} {X : pS} (hT : TW G x ad I F H) (hR : TR (F 0) S) (hW : WF S) (hXI : XI S) (hi9 : i9 < 30) (hB9 : stB X) (hs9 : stR (F 22) i9 X) : Mt l yX8_execute (ws_ yX8_execute cX8_execute 5 (some .boolean)) 20 1400 0 0 G P [.ref x, .int (nI i9)] H (tw_M x ad) (mm_i (mm_b (ex1 S X).isSome) (fun H2 => ∃ F2, TW G x ad I F2 H2 ∧ eqx [0, 7, 11] F F2 ∧ TR (F2 0) ((ex1 S X).getD S))) := by
  refine Mt.of (by decide) (Nat.le_of_ble_eq_true rfl) (fun p e s m below meth c ls hx hb hr hlk hml hown hnm hts hKK hsH hl hS => ?_)
  have hl : lv_has ls 5 [(0, .ref x), (1, .int (nI i9))] := hl
  have hR0 := hR
  have hMx : mm_A (tw_M x ad) H x := Or.inl (Or.inl rfl)
  have hMa : ∀ j, tw_isA j = true → mm_A (tw_M x ad) H (ad j) := fun j hj => Or.inl (Or.inr ⟨j, hj, rfl⟩)
  have hnv := hW.nv
  have hnn := hW.nn
  have h1n := hXI.2.2.1
  have hRg := hXI.rg
  have hn9 := hXI.n9
  have hgb : s_garb S ≤ s_nn S := cB_le _ _
  have hgv : ∀ v, s_garb (setR S v) ≤ s_nn S := fun v => cB_le _ _
  obtain ⟨k9, X2⟩ := X
  have hk9 : k9 = 0 ∨ k9 = 1 ∨ k9 = 2 ∨ k9 = 3 ∨ k9 = 4 := by have h4 : k9 ≤ 4 := hB9.1; omega
  rcases hk9 with rfl | rfl | rfl | rfl | rfl
  · obtain ⟨v, i, y⟩ := X2
    have hv39 : v ≤ 39 := hB9.2.1
    have hi64 : i ≤ 64 := hB9.2.2.1
    obtain ⟨-, hs0, hs1, hs2, hs3, hs4⟩ := hs9
    refine lv_iconst (v := nI 4) hx hb dX8_execute_0 (by decide) ?_
    refine lv_iload_n hx hb dX8_execute_1 rfl (lv_at hl 1 rfl) ?_
    refine mm_imul hx hb dX8_execute_2 ?_
    refine lv_istore_n (lv' := [(2, .int (nI (4 * i9))), (0, .ref x), (1, .int (nI i9))]) hx hb dX8_execute_3 rfl hl (by decide) rfl (fun ls hl => ?_)
    refine lv_aload_n hx hb dX8_execute_4 rfl (lv_at hl 1 rfl) ?_
    refine tw_geta 22 hx hb hts hown hKK hT rfl rfl (hts _ q2520) dX8_execute_5 ?_
    refine lv_iload_n hx hb dX8_execute_8 rfl (lv_at hl 0 rfl) ?_
    refine lv_iconst (v := nI 1) hx hb dX8_execute_9 (by decide) ?_
    refine mm_iadd hx hb dX8_execute_10 ?_
    refine mm_iald (k := (4 * i9 + 1)) hx hb hKK (hT.2.2 22 rfl) mm_le.rf (by show _ < 120; omega) (by decide) dX8_execute_11 ?_
    refine mm_top (y := nI v) (hs1 (show 0 ≤ 3 by decide)) ?_
    refine lv_istore_n (lv' := [(3, .int (nI v)), (2, .int (nI (4 * i9))), (0, .ref x), (1, .int (nI i9))]) hx hb dX8_execute_12 rfl hl (by decide) rfl (fun ls hl => ?_)
    refine lv_aload_n hx hb dX8_execute_13 rfl (lv_at hl 2 rfl) ?_
    refine tw_geta 22 hx hb hts hown hKK hT rfl rfl (hts _ q2520) dX8_execute_14 ?_
    refine lv_iload_n hx hb dX8_execute_17 rfl (lv_at hl 1 rfl) ?_
    refine lv_iconst (v := nI 2) hx hb dX8_execute_18 (by decide) ?_
    refine mm_iadd hx hb dX8_execute_19 ?_
    refine mm_iald (k := (4 * i9 + 2)) hx hb hKK (hT.2.2 22 rfl) mm_le.rf (by show _ < 120; omega) (by decide) dX8_execute_20 ?_
    refine mm_top (y := nI i) (hs2 (show (0 : Nat) = 0 ∨ (0 : Nat) = 2 by decide)) ?_
    refine lv_istore (lv' := [(4, .int (nI i)), (3, .int (nI v)), (2, .int (nI (4 * i9))), (0, .ref x), (1, .int (nI i9))]) hx hb dX8_execute_21 hl (by decide) rfl (fun ls hl => ?_)
    refine lv_aload_n hx hb dX8_execute_23 rfl (lv_at hl 3 rfl) ?_
    refine tw_geta 22 hx hb hts hown hKK hT rfl rfl (hts _ q2520) dX8_execute_24 ?_
    refine lv_iload_n hx hb dX8_execute_27 rfl (lv_at hl 2 rfl) ?_
    refine mm_iald (k := (4 * i9)) hx hb hKK (hT.2.2 22 rfl) mm_le.rf (by show _ < 120; omega) (by decide) dX8_execute_28 ?_
    refine mm_top (y := nI 0) (hs0) ?_
    refine lv_tableIn (off := 31) (tgt := 60) hx hb dX8_execute_29 (by decide) (by decide) (by rfl) (by decide) ?_
    refine lv_aload_n hx hb dX8_execute_60 rfl (lv_at hl 3 rfl) ?_
    refine lv_iload_n hx hb dX8_execute_61 rfl (lv_at hl 1 rfl) ?_
    refine lv_iload hx hb dX8_execute_62 (lv_at hl 0 rfl) ?_
    refine lv_aload_n hx hb dX8_execute_64 rfl (lv_at hl 3 rfl) ?_
    refine tw_geta 22 hx hb hts hown hKK hT rfl rfl (hts _ q2520) dX8_execute_65 ?_
    refine lv_iload_n hx hb dX8_execute_68 rfl (lv_at hl 2 rfl) ?_
    refine lv_iconst (v := nI 3) hx hb dX8_execute_69 (by decide) ?_
    refine mm_iadd hx hb dX8_execute_70 ?_
    refine mm_iald (k := (4 * i9 + 3)) hx hb hKK (hT.2.2 22 rfl) mm_le.rf (by show _ < 120; omega) (by decide) dX8_execute_71 ?_
    refine mm_top (y := y) (hs4 rfl) ?_
    refine mm_ri (va_runV (As := [.int (nI v), .int (nI i), .int y]) (rest := []) ⟨hx, hb, hml, hown, hts⟩ (t_executeSet l (S := S) (v := v) (i := i) (y := y) hT hR hW hXI hv39 hi64) (cwV 3 hts (lw_V q2705 q2707 qs79 q164 q2708) rfl rfl rfl (by decide +kernel) ⟨Nat.le_of_ble_eq_true rfl, Nat.le_of_ble_eq_true rfl⟩) (mm_pV hKK (mm_rc hKK hT.2.1 mm_le.rf rfl)) rfl rfl hl.1 rfl (lv_room (Nat.le_of_ble_eq_true rfl)) dX8_execute_72 ⟨Nat.le_of_ble_eq_true rfl, Nat.le_of_ble_eq_true rfl⟩) hS (mm_sS hS) (fun H_72 L_72 hB_72 hz_72 hq_72 hS => ?_)
    obtain ⟨F_72, hT, he_72, hR⟩ := hB_72
    exact mm_zret (v := mm_b ((ex1 S (0, v, i, y)).isSome)) hx hb hr hlk hS (Nat.le_of_ble_eq_true rfl) (Nat.le_of_ble_eq_true rfl) (mm_nb _) (⟨rfl, F_72, hT, he_72.mono (by decide), hR⟩) dX8_execute_75
  · obtain ⟨v, i, y⟩ := X2
    have hv39 : v ≤ 39 := hB9.2.1
    have hi64 : i ≤ 64 := hB9.2.2.1
    obtain ⟨-, hs0, hs1, hs2, hs3, hs4⟩ := hs9
    refine lv_iconst (v := nI 4) hx hb dX8_execute_0 (by decide) ?_
    refine lv_iload_n hx hb dX8_execute_1 rfl (lv_at hl 1 rfl) ?_
    refine mm_imul hx hb dX8_execute_2 ?_
    refine lv_istore_n (lv' := [(2, .int (nI (4 * i9))), (0, .ref x), (1, .int (nI i9))]) hx hb dX8_execute_3 rfl hl (by decide) rfl (fun ls hl => ?_)
    refine lv_aload_n hx hb dX8_execute_4 rfl (lv_at hl 1 rfl) ?_
    refine tw_geta 22 hx hb hts hown hKK hT rfl rfl (hts _ q2520) dX8_execute_5 ?_
    refine lv_iload_n hx hb dX8_execute_8 rfl (lv_at hl 0 rfl) ?_
    refine lv_iconst (v := nI 1) hx hb dX8_execute_9 (by decide) ?_
    refine mm_iadd hx hb dX8_execute_10 ?_
    refine mm_iald (k := (4 * i9 + 1)) hx hb hKK (hT.2.2 22 rfl) mm_le.rf (by show _ < 120; omega) (by decide) dX8_execute_11 ?_
    refine mm_top (y := nI v) (hs1 (show 1 ≤ 3 by decide)) ?_
    refine lv_istore_n (lv' := [(3, .int (nI v)), (2, .int (nI (4 * i9))), (0, .ref x), (1, .int (nI i9))]) hx hb dX8_execute_12 rfl hl (by decide) rfl (fun ls hl => ?_)
    refine lv_aload_n hx hb dX8_execute_13 rfl (lv_at hl 2 rfl) ?_
    refine tw_geta 22 hx hb hts hown hKK hT rfl rfl (hts _ q2520) dX8_execute_14 ?_
    refine lv_iload_n hx hb dX8_execute_17 rfl (lv_at hl 1 rfl) ?_
    refine lv_iconst (v := nI 2) hx hb dX8_execute_18 (by decide) ?_
    refine mm_iadd hx hb dX8_execute_19 ?_
    refine mm_iald (k := (4 * i9 + 2)) hx hb hKK (hT.2.2 22 rfl) mm_le.rf (by show _ < 120; omega) (by decide) dX8_execute_20 ?_
    refine mm_top (y := y) (hs3 rfl) ?_
    refine lv_istore (lv' := [(4, .int y), (3, .int (nI v)), (2, .int (nI (4 * i9))), (0, .ref x), (1, .int (nI i9))]) hx hb dX8_execute_21 hl (by decide) rfl (fun ls hl => ?_)
    refine lv_aload_n hx hb dX8_execute_23 rfl (lv_at hl 3 rfl) ?_
    refine tw_geta 22 hx hb hts hown hKK hT rfl rfl (hts _ q2520) dX8_execute_24 ?_
    refine lv_iload_n hx hb dX8_execute_27 rfl (lv_at hl 2 rfl) ?_
    refine mm_iald (k := (4 * i9)) hx hb hKK (hT.2.2 22 rfl) mm_le.rf (by show _ < 120; omega) (by decide) dX8_execute_28 ?_
    refine mm_top (y := nI 1) (hs0) ?_
    refine lv_tableIn (off := 47) (tgt := 76) hx hb dX8_execute_29 (by decide) (by decide) (by rfl) (by decide) ?_
    refine lv_aload_n hx hb dX8_execute_76 rfl (lv_at hl 3 rfl) ?_
    refine lv_iload_n hx hb dX8_execute_77 rfl (lv_at hl 1 rfl) ?_
    refine lv_iload hx hb dX8_execute_78 (lv_at hl 0 rfl) ?_
    refine mm_ri (va_runV (As := [.int (nI v), .int y]) (rest := []) ⟨hx, hb, hml, hown, hts⟩ (t_executeAppend l (S := S) (v := v) (i := i) (y := y) hT hR hW hXI hv39) (cwV 2 hts (lw_V q2757 q2759 qs92 q164 q2760) rfl rfl rfl (by decide +kernel) ⟨Nat.le_of_ble_eq_true rfl, Nat.le_of_ble_eq_true rfl⟩) (mm_pV hKK (mm_rc hKK hT.2.1 mm_le.rf rfl)) rfl rfl hl.1 rfl (lv_room (Nat.le_of_ble_eq_true rfl)) dX8_execute_80 ⟨Nat.le_of_ble_eq_true rfl, Nat.le_of_ble_eq_true rfl⟩) hS (mm_sS hS) (fun H_80 L_80 hB_80 hz_80 hq_80 hS => ?_)
    obtain ⟨F_80, hT, he_80, hR⟩ := hB_80
    exact mm_zret (v := mm_b ((ex1 S (1, v, i, y)).isSome)) hx hb hr hlk hS (Nat.le_of_ble_eq_true rfl) (Nat.le_of_ble_eq_true rfl) (mm_nb _) (⟨rfl, F_80, hT, he_80.mono (by decide), hR⟩) dX8_execute_83
  · obtain ⟨v, i, y⟩ := X2
    have hv39 : v ≤ 39 := hB9.2.1
    have hi64 : i ≤ 64 := hB9.2.2.1
    obtain ⟨-, hs0, hs1, hs2, hs3, hs4⟩ := hs9
    refine lv_iconst (v := nI 4) hx hb dX8_execute_0 (by decide) ?_
    refine lv_iload_n hx hb dX8_execute_1 rfl (lv_at hl 1 rfl) ?_
    refine mm_imul hx hb dX8_execute_2 ?_
    refine lv_istore_n (lv' := [(2, .int (nI (4 * i9))), (0, .ref x), (1, .int (nI i9))]) hx hb dX8_execute_3 rfl hl (by decide) rfl (fun ls hl => ?_)
    refine lv_aload_n hx hb dX8_execute_4 rfl (lv_at hl 1 rfl) ?_
    refine tw_geta 22 hx hb hts hown hKK hT rfl rfl (hts _ q2520) dX8_execute_5 ?_
    refine lv_iload_n hx hb dX8_execute_8 rfl (lv_at hl 0 rfl) ?_
    refine lv_iconst (v := nI 1) hx hb dX8_execute_9 (by decide) ?_
    refine mm_iadd hx hb dX8_execute_10 ?_
    refine mm_iald (k := (4 * i9 + 1)) hx hb hKK (hT.2.2 22 rfl) mm_le.rf (by show _ < 120; omega) (by decide) dX8_execute_11 ?_
    refine mm_top (y := nI v) (hs1 (show 2 ≤ 3 by decide)) ?_
    refine lv_istore_n (lv' := [(3, .int (nI v)), (2, .int (nI (4 * i9))), (0, .ref x), (1, .int (nI i9))]) hx hb dX8_execute_12 rfl hl (by decide) rfl (fun ls hl => ?_)
    refine lv_aload_n hx hb dX8_execute_13 rfl (lv_at hl 2 rfl) ?_
    refine tw_geta 22 hx hb hts hown hKK hT rfl rfl (hts _ q2520) dX8_execute_14 ?_
    refine lv_iload_n hx hb dX8_execute_17 rfl (lv_at hl 1 rfl) ?_
    refine lv_iconst (v := nI 2) hx hb dX8_execute_18 (by decide) ?_
    refine mm_iadd hx hb dX8_execute_19 ?_
    refine mm_iald (k := (4 * i9 + 2)) hx hb hKK (hT.2.2 22 rfl) mm_le.rf (by show _ < 120; omega) (by decide) dX8_execute_20 ?_
    refine mm_top (y := nI i) (hs2 (show (2 : Nat) = 0 ∨ (2 : Nat) = 2 by decide)) ?_
    refine lv_istore (lv' := [(4, .int (nI i)), (3, .int (nI v)), (2, .int (nI (4 * i9))), (0, .ref x), (1, .int (nI i9))]) hx hb dX8_execute_21 hl (by decide) rfl (fun ls hl => ?_)
    refine lv_aload_n hx hb dX8_execute_23 rfl (lv_at hl 3 rfl) ?_
    refine tw_geta 22 hx hb hts hown hKK hT rfl rfl (hts _ q2520) dX8_execute_24 ?_
    refine lv_iload_n hx hb dX8_execute_27 rfl (lv_at hl 2 rfl) ?_
    refine mm_iald (k := (4 * i9)) hx hb hKK (hT.2.2 22 rfl) mm_le.rf (by show _ < 120; omega) (by decide) dX8_execute_28 ?_
    refine mm_top (y := nI 2) (hs0) ?_
    refine lv_tableIn (off := 55) (tgt := 84) hx hb dX8_execute_29 (by decide) (by decide) (by rfl) (by decide) ?_
    refine lv_aload_n hx hb dX8_execute_84 rfl (lv_at hl 3 rfl) ?_
    refine lv_iload_n hx hb dX8_execute_85 rfl (lv_at hl 1 rfl) ?_
    refine lv_iload hx hb dX8_execute_86 (lv_at hl 0 rfl) ?_
    refine mm_ri (va_runV (As := [.int (nI v), .int (nI i)]) (rest := []) ⟨hx, hb, hml, hown, hts⟩ (t_executeTruncate l (S := S) (v := v) (i := i) (y := y) hT hR hW hXI hv39 hi64) (cwV 2 hts (lw_V q2773 q2775 qs96 q164 q2776) rfl rfl rfl (by decide +kernel) ⟨Nat.le_of_ble_eq_true rfl, Nat.le_of_ble_eq_true rfl⟩) (mm_pV hKK (mm_rc hKK hT.2.1 mm_le.rf rfl)) rfl rfl hl.1 rfl (lv_room (Nat.le_of_ble_eq_true rfl)) dX8_execute_88 ⟨Nat.le_of_ble_eq_true rfl, Nat.le_of_ble_eq_true rfl⟩) hS (mm_sS hS) (fun H_88 L_88 hB_88 hz_88 hq_88 hS => ?_)
    obtain ⟨F_88, hT, he_88, hR⟩ := hB_88
    exact mm_zret (v := mm_b ((ex1 S (2, v, i, y)).isSome)) hx hb hr hlk hS (Nat.le_of_ble_eq_true rfl) (Nat.le_of_ble_eq_true rfl) (mm_nb _) (⟨rfl, F_88, hT, he_88.mono (by decide), hR⟩) dX8_execute_91
  · obtain ⟨v, i, y⟩ := X2
    have hv39 : v ≤ 39 := hB9.2.1
    have hi64 : i ≤ 64 := hB9.2.2.1
    obtain ⟨-, hs0, hs1, hs2, hs3, hs4⟩ := hs9
    refine lv_iconst (v := nI 4) hx hb dX8_execute_0 (by decide) ?_
    refine lv_iload_n hx hb dX8_execute_1 rfl (lv_at hl 1 rfl) ?_
    refine mm_imul hx hb dX8_execute_2 ?_
    refine lv_istore_n (lv' := [(2, .int (nI (4 * i9))), (0, .ref x), (1, .int (nI i9))]) hx hb dX8_execute_3 rfl hl (by decide) rfl (fun ls hl => ?_)
    refine lv_aload_n hx hb dX8_execute_4 rfl (lv_at hl 1 rfl) ?_
    refine tw_geta 22 hx hb hts hown hKK hT rfl rfl (hts _ q2520) dX8_execute_5 ?_
    refine lv_iload_n hx hb dX8_execute_8 rfl (lv_at hl 0 rfl) ?_
    refine lv_iconst (v := nI 1) hx hb dX8_execute_9 (by decide) ?_
    refine mm_iadd hx hb dX8_execute_10 ?_
    refine mm_iald (k := (4 * i9 + 1)) hx hb hKK (hT.2.2 22 rfl) mm_le.rf (by show _ < 120; omega) (by decide) dX8_execute_11 ?_
    refine mm_top (y := nI v) (hs1 (show 3 ≤ 3 by decide)) ?_
    refine lv_istore_n (lv' := [(3, .int (nI v)), (2, .int (nI (4 * i9))), (0, .ref x), (1, .int (nI i9))]) hx hb dX8_execute_12 rfl hl (by decide) rfl (fun ls hl => ?_)
    refine lv_aload_n hx hb dX8_execute_13 rfl (lv_at hl 2 rfl) ?_
    refine tw_geta 22 hx hb hts hown hKK hT rfl rfl (hts _ q2520) dX8_execute_14 ?_
    refine lv_iload_n hx hb dX8_execute_17 rfl (lv_at hl 1 rfl) ?_
    refine lv_iconst (v := nI 2) hx hb dX8_execute_18 (by decide) ?_
    refine mm_iadd hx hb dX8_execute_19 ?_
    refine mm_iald (k := (4 * i9 + 2)) hx hb hKK (hT.2.2 22 rfl) mm_le.rf (by show _ < 120; omega) (by decide) dX8_execute_20 ?_
    refine lv_istore (lv' := [(4, .int (F 22 (4 * i9 + 2))), (3, .int (nI v)), (2, .int (nI (4 * i9))), (0, .ref x), (1, .int (nI i9))]) hx hb dX8_execute_21 hl (by decide) rfl (fun ls hl => ?_)
    refine lv_aload_n hx hb dX8_execute_23 rfl (lv_at hl 3 rfl) ?_
    refine tw_geta 22 hx hb hts hown hKK hT rfl rfl (hts _ q2520) dX8_execute_24 ?_
    refine lv_iload_n hx hb dX8_execute_27 rfl (lv_at hl 2 rfl) ?_
    refine mm_iald (k := (4 * i9)) hx hb hKK (hT.2.2 22 rfl) mm_le.rf (by show _ < 120; omega) (by decide) dX8_execute_28 ?_
    refine mm_top (y := nI 3) (hs0) ?_
    refine lv_tableIn (off := 63) (tgt := 92) hx hb dX8_execute_29 (by decide) (by decide) (by rfl) (by decide) ?_
    refine lv_aload_n hx hb dX8_execute_92 rfl (lv_at hl 3 rfl) ?_
    refine lv_iload_n hx hb dX8_execute_93 rfl (lv_at hl 1 rfl) ?_
    refine mm_rpu (va_runV (As := [.int (nI v)]) (rest := []) ⟨hx, hb, hml, hown, hts⟩ (t_isLive l hT hR hW) (cwV 1 hts (lw_V q2709 q2711 qs80 q164 q2712) rfl rfl rfl (by decide +kernel) ⟨Nat.le_of_ble_eq_true rfl, Nat.le_of_ble_eq_true rfl⟩) (mm_pV hKK (mm_rc hKK hT.2.1 mm_le.rf rfl)) rfl rfl hl.1 rfl (lv_room (Nat.le_of_ble_eq_true rfl)) dX8_execute_94 ⟨Nat.le_of_ble_eq_true rfl, Nat.le_of_ble_eq_true rfl⟩) hS (mm_s0 hS) (fun L_94 hS => ?_)
    refine mm_top (y := mm_b (lvN S v)) (congrArg mm_b (isLv_N (by omega) hnv)) ?_
    refine mm_ifeqB (tgt := 112) hx hb dX8_execute_97 (by decide) (fun c_97 => ?_) (fun c_97 => ?_)
    · refine lv_iconst (v := nI 0) hx hb dX8_execute_112 (by decide) ?_
      refine mm_top (y := mm_b false) rfl ?_
      exact mm_zret (v := mm_b false) hx hb hr hlk hS (Nat.le_of_ble_eq_true rfl) (Nat.le_of_ble_eq_true rfl) (mm_nb _) (⟨by rw [ex1_3f c_97]; rfl, F, hT, eqx.rf, by rw [ex1_3f c_97]; exact hR⟩) dX8_execute_113
    · obtain ⟨hv9, hl9⟩ := lvN_t c_97
      have hgv9 := hgv v
      refine lv_aload_n hx hb dX8_execute_100 rfl (lv_at hl 3 rfl) ?_
      refine lv_iload_n hx hb dX8_execute_101 rfl (lv_at hl 1 rfl) ?_
      refine mm_ri (va_runV (As := [.int (nI v)]) (rest := []) ⟨hx, hb, hml, hown, hts⟩ (t_releaseVersion l hT hR hW hXI.hg hv9) (cwV 1 hts (lw_V q2797 q2799 qs102 q164 q2800) rfl rfl rfl (by decide +kernel) ⟨Nat.le_of_ble_eq_true rfl, Nat.le_of_ble_eq_true rfl⟩) (mm_pV hKK (mm_rc hKK hT.2.1 mm_le.rf rfl)) rfl rfl hl.1 rfl (lv_room (Nat.le_of_ble_eq_true rfl)) dX8_execute_102 ⟨Nat.le_of_ble_eq_true rfl, Nat.le_of_ble_eq_true rfl⟩) hS (mm_sS hS) (fun H_102 L_102 hB_102 hz_102 hq_102 hS => ?_)
      obtain ⟨F_102, hT, he_102, hR⟩ := hB_102
      refine mm_if_lt (tgt := 112) (by omega) hx hb dX8_execute_105 (by decide) (fun c_105 => ?_) (fun c_105 => ?_)
      · exact c_105.elim
      · refine lv_iconst (v := nI 1) hx hb dX8_execute_108 (by decide) ?_
        refine mm_top (y := mm_b true) rfl ?_
        refine lv_goto (tgt := 113) hx hb dX8_execute_109 (by decide) ?_
        exact mm_zret (v := mm_b true) hx hb hr hlk hS (Nat.le_of_ble_eq_true rfl) (Nat.le_of_ble_eq_true rfl) (mm_nb _) (⟨by rw [ex1_3t c_97]; rfl, F_102, hT, he_102.mono (by decide), by rw [ex1_3t c_97]; exact hR⟩) dX8_execute_113
  · obtain ⟨v, i, y⟩ := X2
    have hv39 : v ≤ 39 := hB9.2.1
    have hi64 : i ≤ 64 := hB9.2.2.1
    obtain ⟨-, hs0, hs1, hs2, hs3, hs4⟩ := hs9
    refine lv_iconst (v := nI 4) hx hb dX8_execute_0 (by decide) ?_
    refine lv_iload_n hx hb dX8_execute_1 rfl (lv_at hl 1 rfl) ?_
    refine mm_imul hx hb dX8_execute_2 ?_
    refine lv_istore_n (lv' := [(2, .int (nI (4 * i9))), (0, .ref x), (1, .int (nI i9))]) hx hb dX8_execute_3 rfl hl (by decide) rfl (fun ls hl => ?_)
    refine lv_aload_n hx hb dX8_execute_4 rfl (lv_at hl 1 rfl) ?_
    refine tw_geta 22 hx hb hts hown hKK hT rfl rfl (hts _ q2520) dX8_execute_5 ?_
    refine lv_iload_n hx hb dX8_execute_8 rfl (lv_at hl 0 rfl) ?_
    refine lv_iconst (v := nI 1) hx hb dX8_execute_9 (by decide) ?_
    refine mm_iadd hx hb dX8_execute_10 ?_
    refine mm_iald (k := (4 * i9 + 1)) hx hb hKK (hT.2.2 22 rfl) mm_le.rf (by show _ < 120; omega) (by decide) dX8_execute_11 ?_
    refine lv_istore_n (lv' := [(3, .int (F 22 (4 * i9 + 1))), (2, .int (nI (4 * i9))), (0, .ref x), (1, .int (nI i9))]) hx hb dX8_execute_12 rfl hl (by decide) rfl (fun ls hl => ?_)
    refine lv_aload_n hx hb dX8_execute_13 rfl (lv_at hl 2 rfl) ?_
    refine tw_geta 22 hx hb hts hown hKK hT rfl rfl (hts _ q2520) dX8_execute_14 ?_
    refine lv_iload_n hx hb dX8_execute_17 rfl (lv_at hl 1 rfl) ?_
    refine lv_iconst (v := nI 2) hx hb dX8_execute_18 (by decide) ?_
    refine mm_iadd hx hb dX8_execute_19 ?_
    refine mm_iald (k := (4 * i9 + 2)) hx hb hKK (hT.2.2 22 rfl) mm_le.rf (by show _ < 120; omega) (by decide) dX8_execute_20 ?_
    refine lv_istore (lv' := [(4, .int (F 22 (4 * i9 + 2))), (3, .int (F 22 (4 * i9 + 1))), (2, .int (nI (4 * i9))), (0, .ref x), (1, .int (nI i9))]) hx hb dX8_execute_21 hl (by decide) rfl (fun ls hl => ?_)
    refine lv_aload_n hx hb dX8_execute_23 rfl (lv_at hl 3 rfl) ?_
    refine tw_geta 22 hx hb hts hown hKK hT rfl rfl (hts _ q2520) dX8_execute_24 ?_
    refine lv_iload_n hx hb dX8_execute_27 rfl (lv_at hl 2 rfl) ?_
    refine mm_iald (k := (4 * i9)) hx hb hKK (hT.2.2 22 rfl) mm_le.rf (by show _ < 120; omega) (by decide) dX8_execute_28 ?_
    refine mm_top (y := nI 4) (hs0) ?_
    refine lv_tableOut (tgt := 114) hx hb dX8_execute_29 (by decide) (by decide) ?_
    refine lv_aload_n hx hb dX8_execute_114 rfl (lv_at hl 3 rfl) ?_
    refine mm_ri (va_runV (As := []) (rest := []) ⟨hx, hb, hml, hown, hts⟩ (t_collectAll l hT hR hW hXI.hg) (cwV 0 hts (lw_V q2821 q2823 qs108 q164 q2824) rfl rfl rfl (by decide +kernel) ⟨Nat.le_of_ble_eq_true rfl, Nat.le_of_ble_eq_true rfl⟩) (mm_pV hKK (mm_rc hKK hT.2.1 mm_le.rf rfl)) rfl rfl hl.1 rfl (lv_room (Nat.le_of_ble_eq_true rfl)) dX8_execute_115 ⟨Nat.le_of_ble_eq_true rfl, Nat.le_of_ble_eq_true rfl⟩) hS (mm_sS hS) (fun H_115 L_115 hB_115 hz_115 hq_115 hS => ?_)
    obtain ⟨F_115, hT, he_115, hR⟩ := hB_115
    refine mm_if_lt (tgt := 125) (by omega) hx hb dX8_execute_118 (by decide) (fun c_118 => ?_) (fun c_118 => ?_)
    · exact c_118.elim
    · refine lv_iconst (v := nI 1) hx hb dX8_execute_121 (by decide) ?_
      refine mm_top (y := mm_b true) rfl ?_
      refine lv_goto (tgt := 126) hx hb dX8_execute_122 (by decide) ?_
      exact mm_zret (v := mm_b true) hx hb hr hlk hS (Nat.le_of_ble_eq_true rfl) (Nat.le_of_ble_eq_true rfl) (mm_nb _) (⟨rfl, F_115, hT, he_115.mono (by decide), hR⟩) dX8_execute_126
