/-! the twin: output (printed by tools/tw17.py) -/
set_option maxRecDepth 100000 in
theorem t_write (l : Launch) {G : mm_G} {P : mm_H} {H : Heap} {x : Nat} {ad : Nat → Nat} {I : Nat → Int32} {F : Nat → Nat → Int32} {os : List Int32} {ch : Nat} (hT : TW G x ad I F H) (hO : OU os I F) (hos : os.length < 322) (hch : ch < 128) : Mt l yX8_write (ws_ yX8_write cX8_write 2 none) 1 40 0 0 G P [.ref x, .int (nI ch)] H (tw_M x ad) (mm_v (fun H2 => ∃ I2 F2, TW G x ad I2 F2 H2 ∧ exI [27] I I2 ∧ eqx [26] F F2 ∧ OU (os ++ [nI ch]) I2 F2)) := by
  refine Mt.of (by decide) (Nat.le_of_ble_eq_true rfl) (fun p e s m below meth c ls hx hb hr hlk hml hown hnm hts hKK hsH hl hS => ?_)
  have hl : lv_has ls 2 [(0, .ref x), (1, .int (nI ch))] := hl
  have hMx : mm_A (tw_M x ad) H x := Or.inl (Or.inl rfl)
  have hMa : ∀ j, tw_isA j = true → mm_A (tw_M x ad) H (ad j) := fun j hj => Or.inl (Or.inr ⟨j, hj, rfl⟩)
  refine lv_aload_n hx hb dX8_write_0 rfl (lv_at hl 0 rfl) ?_
  refine tw_geta 26 hx hb hts hown hKK hT rfl rfl (hts _ q2524) dX8_write_1 ?_
  refine lv_aload_n hx hb dX8_write_4 rfl (lv_at hl 0 rfl) ?_
  refine tw_geti 27 (v := nI os.length) hx hb hts hown hKK hT (by decide) rfl (hO.1) (hts _ q2525) dX8_write_5 ?_
  refine lv_iload_n hx hb dX8_write_8 rfl (lv_at hl 1 rfl) ?_
  refine lv_i2b hx hb dX8_write_9 rfl ?_
  refine tw_stb 26 (k := os.length) hx hb hKK hT hS hMa rfl rfl (by show _ < 322; omega) dX8_write_10 (fun H_10 L_10 hT hz_10 hq_10 hS => ?_)
  refine lv_aload_n hx hb dX8_write_11 rfl (lv_at hl 0 rfl) ?_
  refine lv_dup hx hb dX8_write_12 rfl ?_
  refine tw_geti 27 (v := nI os.length) hx hb hts hown hKK hT (by decide) rfl (hO.1) (hts _ q2525) dX8_write_13 ?_
  refine lv_iconst (v := nI 1) hx hb dX8_write_16 (by decide) ?_
  refine mm_iadd hx hb dX8_write_17 ?_
  refine tw_put 27 hx hb hts hown hKK hT hS (hMx) (by decide) rfl (by decide) ⟨rfl, rfl⟩ (hts _ q2525) dX8_write_18 (fun H_18 L_18 hT hz_18 hq_18 hS => ?_)
  exact mm_vret hx hb hr hlk hS (Nat.le_of_ble_eq_true rfl) (Nat.le_of_ble_eq_true rfl) (⟨rfl, _, _, hT, exI.u (by decide), eqx.u (by decide), OU_app hO (nar_ch hch)⟩) dX8_write_21
set_option maxRecDepth 100000 in
theorem t_writeNumber (l : Launch) {G : mm_G} {P : mm_H} {H : Heap} {x : Nat} {ad : Nat → Nat} {I : Nat → Int32} {F : Nat → Nat → Int32} {os : List Int32} {v : Int32} (hT : TW G x ad I F H) (hO : OU os I F) (hos : os.length + 4 ≤ 322) (hv : inV v = true) : Mt l yX8_writeNumber (ws_ yX8_writeNumber cX8_writeNumber 3 none) 3 100 0 0 G P [.ref x, .int v] H (tw_M x ad) (mm_v (fun H2 => ∃ I2 F2, TW G x ad I2 F2 H2 ∧ exI [27] I I2 ∧ eqx [26] F F2 ∧ OU (os ++ nds_ v) I2 F2)) := by
  refine Mt.of (by decide) (Nat.le_of_ble_eq_true rfl) (fun p e s m below meth c ls hx hb hr hlk hml hown hnm hts hKK hsH hl hS => ?_)
  have hl : lv_has ls 3 [(0, .ref x), (1, .int v)] := hl
  have hMx : mm_A (tw_M x ad) H x := Or.inl (Or.inl rfl)
  have hMa : ∀ j, tw_isA j = true → mm_A (tw_M x ad) H (ad j) := fun j hj => Or.inl (Or.inr ⟨j, hj, rfl⟩)
  obtain ⟨hab, ham⟩ := abs_eq hv
  refine lv_iload_n hx hb dX8_writeNumber_0 rfl (lv_at hl 1 rfl) ?_
  refine va_mabs (x := v) (rest := []) hx hb (hml.trans hl.1.symm) hown (hts _ q3087) (hts _ q2257) (hts _ q143) (hts _ q2258) (Nat.le_of_ble_eq_true rfl) (Nat.le_of_ble_eq_true rfl) (Nat.le_of_ble_eq_true rfl) (Nat.le_of_ble_eq_true rfl) dX8_writeNumber_1 ?_
  refine mm_top (y := nI (absN v)) (hab) ?_
  refine lv_istore_n (lv' := [(2, .int (nI (absN v))), (0, .ref x), (1, .int v)]) hx hb dX8_writeNumber_4 rfl hl (by decide) rfl (fun ls hl => ?_)
  refine lv_iload_n hx hb dX8_writeNumber_5 rfl (lv_at hl 2 rfl) ?_
  refine lv_if_ge (tgt := 15) hx hb dX8_writeNumber_6 (by decide) (fun c_6 => ?_) (fun c_6 => ?_)
  · refine lv_iload_n hx hb dX8_writeNumber_15 rfl (lv_at hl 0 rfl) ?_
    refine lv_bipush (v := nI 99) hx hb dX8_writeNumber_16 (by decide) ?_
    refine mm_icmp_le (tgt := 32) (by omega) (by omega) hx hb dX8_writeNumber_18 (by decide) (fun c_18 => ?_) (fun c_18 => ?_)
    · refine lv_iload_n hx hb dX8_writeNumber_32 rfl (lv_at hl 0 rfl) ?_
      refine lv_bipush (v := nI 9) hx hb dX8_writeNumber_33 (by decide) ?_
      refine mm_icmp_le (tgt := 52) (by omega) (by omega) hx hb dX8_writeNumber_35 (by decide) (fun c_35 => ?_) (fun c_35 => ?_)
      · refine lv_aload_n hx hb dX8_writeNumber_52 rfl (lv_at hl 1 rfl) ?_
        refine lv_bipush (v := nI 48) hx hb dX8_writeNumber_53 (by decide) ?_
        refine lv_iload_n hx hb dX8_writeNumber_55 rfl (lv_at hl 0 rfl) ?_
        refine lv_bipush (v := nI 10) hx hb dX8_writeNumber_56 (by decide) ?_
        refine mm_irem (by omega) (by omega) (by omega) hx hb dX8_writeNumber_58 ?_
        refine mm_iadd hx hb dX8_writeNumber_59 ?_
        refine mm_rv (va_runV (As := [.int (nI (48 + (absN v) % 10))]) (rest := []) ⟨hx, hb, hml, hown, hts⟩ (t_write l (os := os) (ch := (48 + (absN v) % 10)) hT hO (by first | omega | (simp only [List.length_append, List.length_cons, List.length_nil]; omega)) (by omega)) (cwV 1 hts (lw_V q3079 q3081 qs130 q164 q3082) rfl rfl rfl (by decide +kernel) ⟨Nat.le_of_ble_eq_true rfl, Nat.le_of_ble_eq_true rfl⟩) (mm_pV hKK (mm_rc hKK hT.2.1 mm_le.rf rfl)) rfl rfl hl.1 rfl (lv_room (Nat.le_of_ble_eq_true rfl)) dX8_writeNumber_60 ⟨Nat.le_of_ble_eq_true rfl, Nat.le_of_ble_eq_true rfl⟩) hS (mm_sS hS) (fun H_60 L_60 hB_60 hz_60 hq_60 hS => ?_)
        obtain ⟨I_60, F_60, hT, hx_60, he_60, hO⟩ := hB_60
        exact mm_vret hx hb hr hlk hS (Nat.le_of_ble_eq_true rfl) (Nat.le_of_ble_eq_true rfl) (⟨rfl, _, _, hT, hx_60, he_60, by unfold nds_ dgs; rw [if_neg (Int32.not_lt.mpr c_6), if_neg (by omega), if_neg (by omega)]; simpa only [List.append_assoc, List.nil_append, List.cons_append] using hO⟩) dX8_writeNumber_63
      · refine lv_aload_n hx hb dX8_writeNumber_38 rfl (lv_at hl 1 rfl) ?_
        refine lv_bipush (v := nI 48) hx hb dX8_writeNumber_39 (by decide) ?_
        refine lv_iload_n hx hb dX8_writeNumber_41 rfl (lv_at hl 0 rfl) ?_
        refine lv_bipush (v := nI 10) hx hb dX8_writeNumber_42 (by decide) ?_
        refine mm_idiv (by omega) (by omega) (by omega) hx hb dX8_writeNumber_44 ?_
        refine lv_bipush (v := nI 10) hx hb dX8_writeNumber_45 (by decide) ?_
        refine mm_irem (by omega) (by omega) (by omega) hx hb dX8_writeNumber_47 ?_
        refine mm_iadd hx hb dX8_writeNumber_48 ?_
        refine mm_rv (va_runV (As := [.int (nI (48 + ((absN v) / 10) % 10))]) (rest := []) ⟨hx, hb, hml, hown, hts⟩ (t_write l (os := os) (ch := (48 + ((absN v) / 10) % 10)) hT hO (by first | omega | (simp only [List.length_append, List.length_cons, List.length_nil]; omega)) (by omega)) (cwV 1 hts (lw_V q3079 q3081 qs130 q164 q3082) rfl rfl rfl (by decide +kernel) ⟨Nat.le_of_ble_eq_true rfl, Nat.le_of_ble_eq_true rfl⟩) (mm_pV hKK (mm_rc hKK hT.2.1 mm_le.rf rfl)) rfl rfl hl.1 rfl (lv_room (Nat.le_of_ble_eq_true rfl)) dX8_writeNumber_49 ⟨Nat.le_of_ble_eq_true rfl, Nat.le_of_ble_eq_true rfl⟩) hS (mm_sS hS) (fun H_49 L_49 hB_49 hz_49 hq_49 hS => ?_)
        obtain ⟨I_49, F_49, hT, hx_49, he_49, hO⟩ := hB_49
        refine lv_aload_n hx hb dX8_writeNumber_52 rfl (lv_at hl 1 rfl) ?_
        refine lv_bipush (v := nI 48) hx hb dX8_writeNumber_53 (by decide) ?_
        refine lv_iload_n hx hb dX8_writeNumber_55 rfl (lv_at hl 0 rfl) ?_
        refine lv_bipush (v := nI 10) hx hb dX8_writeNumber_56 (by decide) ?_
        refine mm_irem (by omega) (by omega) (by omega) hx hb dX8_writeNumber_58 ?_
        refine mm_iadd hx hb dX8_writeNumber_59 ?_
        refine mm_rv (va_runV (As := [.int (nI (48 + (absN v) % 10))]) (rest := []) ⟨hx, hb, hml, hown, hts⟩ (t_write l (os := (os ++ [nI (48 + ((absN v) / 10) % 10)])) (ch := (48 + (absN v) % 10)) hT hO (by first | omega | (simp only [List.length_append, List.length_cons, List.length_nil]; omega)) (by omega)) (cwV 1 hts (lw_V q3079 q3081 qs130 q164 q3082) rfl rfl rfl (by decide +kernel) ⟨Nat.le_of_ble_eq_true rfl, Nat.le_of_ble_eq_true rfl⟩) (mm_pV hKK (mm_rc hKK hT.2.1 mm_le.rf rfl)) rfl rfl hl.1 rfl (lv_room (Nat.le_of_ble_eq_true rfl)) dX8_writeNumber_60 ⟨Nat.le_of_ble_eq_true rfl, Nat.le_of_ble_eq_true rfl⟩) hS (mm_sS hS) (fun H_60 L_60 hB_60 hz_60 hq_60 hS => ?_)
        obtain ⟨I_60, F_60, hT, hx_60, he_60, hO⟩ := hB_60
        exact mm_vret hx hb hr hlk hS (Nat.le_of_ble_eq_true rfl) (Nat.le_of_ble_eq_true rfl) (⟨rfl, _, _, hT, hx_49.tr hx_60, he_49.tr he_60, by unfold nds_ dgs; rw [if_neg (Int32.not_lt.mpr c_6), if_neg (by omega), if_pos (by omega)]; simpa only [List.append_assoc, List.nil_append, List.cons_append] using hO⟩) dX8_writeNumber_63
    · refine lv_aload_n hx hb dX8_writeNumber_21 rfl (lv_at hl 1 rfl) ?_
      refine lv_bipush (v := nI 48) hx hb dX8_writeNumber_22 (by decide) ?_
      refine lv_iload_n hx hb dX8_writeNumber_24 rfl (lv_at hl 0 rfl) ?_
      refine lv_bipush (v := nI 100) hx hb dX8_writeNumber_25 (by decide) ?_
      refine mm_idiv (by omega) (by omega) (by omega) hx hb dX8_writeNumber_27 ?_
      refine mm_iadd hx hb dX8_writeNumber_28 ?_
      refine mm_rv (va_runV (As := [.int (nI (48 + (absN v) / 100))]) (rest := []) ⟨hx, hb, hml, hown, hts⟩ (t_write l (os := os) (ch := (48 + (absN v) / 100)) hT hO (by first | omega | (simp only [List.length_append, List.length_cons, List.length_nil]; omega)) (by omega)) (cwV 1 hts (lw_V q3079 q3081 qs130 q164 q3082) rfl rfl rfl (by decide +kernel) ⟨Nat.le_of_ble_eq_true rfl, Nat.le_of_ble_eq_true rfl⟩) (mm_pV hKK (mm_rc hKK hT.2.1 mm_le.rf rfl)) rfl rfl hl.1 rfl (lv_room (Nat.le_of_ble_eq_true rfl)) dX8_writeNumber_29 ⟨Nat.le_of_ble_eq_true rfl, Nat.le_of_ble_eq_true rfl⟩) hS (mm_sS hS) (fun H_29 L_29 hB_29 hz_29 hq_29 hS => ?_)
      obtain ⟨I_29, F_29, hT, hx_29, he_29, hO⟩ := hB_29
      refine lv_iload_n hx hb dX8_writeNumber_32 rfl (lv_at hl 0 rfl) ?_
      refine lv_bipush (v := nI 9) hx hb dX8_writeNumber_33 (by decide) ?_
      refine mm_icmp_le (tgt := 52) (by omega) (by omega) hx hb dX8_writeNumber_35 (by decide) (fun c_35 => ?_) (fun c_35 => ?_)
      · refine lv_aload_n hx hb dX8_writeNumber_52 rfl (lv_at hl 1 rfl) ?_
        refine lv_bipush (v := nI 48) hx hb dX8_writeNumber_53 (by decide) ?_
        refine lv_iload_n hx hb dX8_writeNumber_55 rfl (lv_at hl 0 rfl) ?_
        refine lv_bipush (v := nI 10) hx hb dX8_writeNumber_56 (by decide) ?_
        refine mm_irem (by omega) (by omega) (by omega) hx hb dX8_writeNumber_58 ?_
        refine mm_iadd hx hb dX8_writeNumber_59 ?_
        refine mm_rv (va_runV (As := [.int (nI (48 + (absN v) % 10))]) (rest := []) ⟨hx, hb, hml, hown, hts⟩ (t_write l (os := (os ++ [nI (48 + (absN v) / 100)])) (ch := (48 + (absN v) % 10)) hT hO (by first | omega | (simp only [List.length_append, List.length_cons, List.length_nil]; omega)) (by omega)) (cwV 1 hts (lw_V q3079 q3081 qs130 q164 q3082) rfl rfl rfl (by decide +kernel) ⟨Nat.le_of_ble_eq_true rfl, Nat.le_of_ble_eq_true rfl⟩) (mm_pV hKK (mm_rc hKK hT.2.1 mm_le.rf rfl)) rfl rfl hl.1 rfl (lv_room (Nat.le_of_ble_eq_true rfl)) dX8_writeNumber_60 ⟨Nat.le_of_ble_eq_true rfl, Nat.le_of_ble_eq_true rfl⟩) hS (mm_sS hS) (fun H_60 L_60 hB_60 hz_60 hq_60 hS => ?_)
        obtain ⟨I_60, F_60, hT, hx_60, he_60, hO⟩ := hB_60
        exact mm_vret hx hb hr hlk hS (Nat.le_of_ble_eq_true rfl) (Nat.le_of_ble_eq_true rfl) (⟨rfl, _, _, hT, hx_29.tr hx_60, he_29.tr he_60, by unfold nds_ dgs; rw [if_neg (Int32.not_lt.mpr c_6), if_pos (by omega), if_neg (by omega)]; simpa only [List.append_assoc, List.nil_append, List.cons_append] using hO⟩) dX8_writeNumber_63
      · refine lv_aload_n hx hb dX8_writeNumber_38 rfl (lv_at hl 1 rfl) ?_
        refine lv_bipush (v := nI 48) hx hb dX8_writeNumber_39 (by decide) ?_
        refine lv_iload_n hx hb dX8_writeNumber_41 rfl (lv_at hl 0 rfl) ?_
        refine lv_bipush (v := nI 10) hx hb dX8_writeNumber_42 (by decide) ?_
        refine mm_idiv (by omega) (by omega) (by omega) hx hb dX8_writeNumber_44 ?_
        refine lv_bipush (v := nI 10) hx hb dX8_writeNumber_45 (by decide) ?_
        refine mm_irem (by omega) (by omega) (by omega) hx hb dX8_writeNumber_47 ?_
        refine mm_iadd hx hb dX8_writeNumber_48 ?_
        refine mm_rv (va_runV (As := [.int (nI (48 + ((absN v) / 10) % 10))]) (rest := []) ⟨hx, hb, hml, hown, hts⟩ (t_write l (os := (os ++ [nI (48 + (absN v) / 100)])) (ch := (48 + ((absN v) / 10) % 10)) hT hO (by first | omega | (simp only [List.length_append, List.length_cons, List.length_nil]; omega)) (by omega)) (cwV 1 hts (lw_V q3079 q3081 qs130 q164 q3082) rfl rfl rfl (by decide +kernel) ⟨Nat.le_of_ble_eq_true rfl, Nat.le_of_ble_eq_true rfl⟩) (mm_pV hKK (mm_rc hKK hT.2.1 mm_le.rf rfl)) rfl rfl hl.1 rfl (lv_room (Nat.le_of_ble_eq_true rfl)) dX8_writeNumber_49 ⟨Nat.le_of_ble_eq_true rfl, Nat.le_of_ble_eq_true rfl⟩) hS (mm_sS hS) (fun H_49 L_49 hB_49 hz_49 hq_49 hS => ?_)
        obtain ⟨I_49, F_49, hT, hx_49, he_49, hO⟩ := hB_49
        refine lv_aload_n hx hb dX8_writeNumber_52 rfl (lv_at hl 1 rfl) ?_
        refine lv_bipush (v := nI 48) hx hb dX8_writeNumber_53 (by decide) ?_
        refine lv_iload_n hx hb dX8_writeNumber_55 rfl (lv_at hl 0 rfl) ?_
        refine lv_bipush (v := nI 10) hx hb dX8_writeNumber_56 (by decide) ?_
        refine mm_irem (by omega) (by omega) (by omega) hx hb dX8_writeNumber_58 ?_
        refine mm_iadd hx hb dX8_writeNumber_59 ?_
        refine mm_rv (va_runV (As := [.int (nI (48 + (absN v) % 10))]) (rest := []) ⟨hx, hb, hml, hown, hts⟩ (t_write l (os := (os ++ [nI (48 + (absN v) / 100)] ++ [nI (48 + ((absN v) / 10) % 10)])) (ch := (48 + (absN v) % 10)) hT hO (by first | omega | (simp only [List.length_append, List.length_cons, List.length_nil]; omega)) (by omega)) (cwV 1 hts (lw_V q3079 q3081 qs130 q164 q3082) rfl rfl rfl (by decide +kernel) ⟨Nat.le_of_ble_eq_true rfl, Nat.le_of_ble_eq_true rfl⟩) (mm_pV hKK (mm_rc hKK hT.2.1 mm_le.rf rfl)) rfl rfl hl.1 rfl (lv_room (Nat.le_of_ble_eq_true rfl)) dX8_writeNumber_60 ⟨Nat.le_of_ble_eq_true rfl, Nat.le_of_ble_eq_true rfl⟩) hS (mm_sS hS) (fun H_60 L_60 hB_60 hz_60 hq_60 hS => ?_)
        obtain ⟨I_60, F_60, hT, hx_60, he_60, hO⟩ := hB_60
        exact mm_vret hx hb hr hlk hS (Nat.le_of_ble_eq_true rfl) (Nat.le_of_ble_eq_true rfl) (⟨rfl, _, _, hT, hx_29.tr (hx_49.tr hx_60), he_29.tr (he_49.tr he_60), by unfold nds_ dgs; rw [if_neg (Int32.not_lt.mpr c_6), if_pos (by omega), if_pos (by omega)]; simpa only [List.append_assoc, List.nil_append, List.cons_append] using hO⟩) dX8_writeNumber_63
  · refine lv_aload_n hx hb dX8_writeNumber_9 rfl (lv_at hl 1 rfl) ?_
    refine lv_bipush (v := nI 45) hx hb dX8_writeNumber_10 (by decide) ?_
    refine mm_rv (va_runV (As := [.int (nI 45)]) (rest := []) ⟨hx, hb, hml, hown, hts⟩ (t_write l (os := os) (ch := 45) hT hO (by first | omega | (simp only [List.length_append, List.length_cons, List.length_nil]; omega)) (by omega)) (cwV 1 hts (lw_V q3079 q3081 qs130 q164 q3082) rfl rfl rfl (by decide +kernel) ⟨Nat.le_of_ble_eq_true rfl, Nat.le_of_ble_eq_true rfl⟩) (mm_pV hKK (mm_rc hKK hT.2.1 mm_le.rf rfl)) rfl rfl hl.1 rfl (lv_room (Nat.le_of_ble_eq_true rfl)) dX8_writeNumber_12 ⟨Nat.le_of_ble_eq_true rfl, Nat.le_of_ble_eq_true rfl⟩) hS (mm_sS hS) (fun H_12 L_12 hB_12 hz_12 hq_12 hS => ?_)
    obtain ⟨I_12, F_12, hT, hx_12, he_12, hO⟩ := hB_12
    refine lv_iload_n hx hb dX8_writeNumber_15 rfl (lv_at hl 0 rfl) ?_
    refine lv_bipush (v := nI 99) hx hb dX8_writeNumber_16 (by decide) ?_
    refine mm_icmp_le (tgt := 32) (by omega) (by omega) hx hb dX8_writeNumber_18 (by decide) (fun c_18 => ?_) (fun c_18 => ?_)
    · refine lv_iload_n hx hb dX8_writeNumber_32 rfl (lv_at hl 0 rfl) ?_
      refine lv_bipush (v := nI 9) hx hb dX8_writeNumber_33 (by decide) ?_
      refine mm_icmp_le (tgt := 52) (by omega) (by omega) hx hb dX8_writeNumber_35 (by decide) (fun c_35 => ?_) (fun c_35 => ?_)
      · refine lv_aload_n hx hb dX8_writeNumber_52 rfl (lv_at hl 1 rfl) ?_
        refine lv_bipush (v := nI 48) hx hb dX8_writeNumber_53 (by decide) ?_
        refine lv_iload_n hx hb dX8_writeNumber_55 rfl (lv_at hl 0 rfl) ?_
        refine lv_bipush (v := nI 10) hx hb dX8_writeNumber_56 (by decide) ?_
        refine mm_irem (by omega) (by omega) (by omega) hx hb dX8_writeNumber_58 ?_
        refine mm_iadd hx hb dX8_writeNumber_59 ?_
        refine mm_rv (va_runV (As := [.int (nI (48 + (absN v) % 10))]) (rest := []) ⟨hx, hb, hml, hown, hts⟩ (t_write l (os := (os ++ [nI 45])) (ch := (48 + (absN v) % 10)) hT hO (by first | omega | (simp only [List.length_append, List.length_cons, List.length_nil]; omega)) (by omega)) (cwV 1 hts (lw_V q3079 q3081 qs130 q164 q3082) rfl rfl rfl (by decide +kernel) ⟨Nat.le_of_ble_eq_true rfl, Nat.le_of_ble_eq_true rfl⟩) (mm_pV hKK (mm_rc hKK hT.2.1 mm_le.rf rfl)) rfl rfl hl.1 rfl (lv_room (Nat.le_of_ble_eq_true rfl)) dX8_writeNumber_60 ⟨Nat.le_of_ble_eq_true rfl, Nat.le_of_ble_eq_true rfl⟩) hS (mm_sS hS) (fun H_60 L_60 hB_60 hz_60 hq_60 hS => ?_)
        obtain ⟨I_60, F_60, hT, hx_60, he_60, hO⟩ := hB_60
        exact mm_vret hx hb hr hlk hS (Nat.le_of_ble_eq_true rfl) (Nat.le_of_ble_eq_true rfl) (⟨rfl, _, _, hT, hx_12.tr hx_60, he_12.tr he_60, by unfold nds_ dgs; rw [if_pos (Int32.not_le.mp c_6), if_neg (by omega), if_neg (by omega)]; simpa only [List.append_assoc, List.nil_append, List.cons_append] using hO⟩) dX8_writeNumber_63
      · refine lv_aload_n hx hb dX8_writeNumber_38 rfl (lv_at hl 1 rfl) ?_
        refine lv_bipush (v := nI 48) hx hb dX8_writeNumber_39 (by decide) ?_
        refine lv_iload_n hx hb dX8_writeNumber_41 rfl (lv_at hl 0 rfl) ?_
        refine lv_bipush (v := nI 10) hx hb dX8_writeNumber_42 (by decide) ?_
        refine mm_idiv (by omega) (by omega) (by omega) hx hb dX8_writeNumber_44 ?_
        refine lv_bipush (v := nI 10) hx hb dX8_writeNumber_45 (by decide) ?_
        refine mm_irem (by omega) (by omega) (by omega) hx hb dX8_writeNumber_47 ?_
        refine mm_iadd hx hb dX8_writeNumber_48 ?_
        refine mm_rv (va_runV (As := [.int (nI (48 + ((absN v) / 10) % 10))]) (rest := []) ⟨hx, hb, hml, hown, hts⟩ (t_write l (os := (os ++ [nI 45])) (ch := (48 + ((absN v) / 10) % 10)) hT hO (by first | omega | (simp only [List.length_append, List.length_cons, List.length_nil]; omega)) (by omega)) (cwV 1 hts (lw_V q3079 q3081 qs130 q164 q3082) rfl rfl rfl (by decide +kernel) ⟨Nat.le_of_ble_eq_true rfl, Nat.le_of_ble_eq_true rfl⟩) (mm_pV hKK (mm_rc hKK hT.2.1 mm_le.rf rfl)) rfl rfl hl.1 rfl (lv_room (Nat.le_of_ble_eq_true rfl)) dX8_writeNumber_49 ⟨Nat.le_of_ble_eq_true rfl, Nat.le_of_ble_eq_true rfl⟩) hS (mm_sS hS) (fun H_49 L_49 hB_49 hz_49 hq_49 hS => ?_)
        obtain ⟨I_49, F_49, hT, hx_49, he_49, hO⟩ := hB_49
        refine lv_aload_n hx hb dX8_writeNumber_52 rfl (lv_at hl 1 rfl) ?_
        refine lv_bipush (v := nI 48) hx hb dX8_writeNumber_53 (by decide) ?_
        refine lv_iload_n hx hb dX8_writeNumber_55 rfl (lv_at hl 0 rfl) ?_
        refine lv_bipush (v := nI 10) hx hb dX8_writeNumber_56 (by decide) ?_
        refine mm_irem (by omega) (by omega) (by omega) hx hb dX8_writeNumber_58 ?_
        refine mm_iadd hx hb dX8_writeNumber_59 ?_
        refine mm_rv (va_runV (As := [.int (nI (48 + (absN v) % 10))]) (rest := []) ⟨hx, hb, hml, hown, hts⟩ (t_write l (os := (os ++ [nI 45] ++ [nI (48 + ((absN v) / 10) % 10)])) (ch := (48 + (absN v) % 10)) hT hO (by first | omega | (simp only [List.length_append, List.length_cons, List.length_nil]; omega)) (by omega)) (cwV 1 hts (lw_V q3079 q3081 qs130 q164 q3082) rfl rfl rfl (by decide +kernel) ⟨Nat.le_of_ble_eq_true rfl, Nat.le_of_ble_eq_true rfl⟩) (mm_pV hKK (mm_rc hKK hT.2.1 mm_le.rf rfl)) rfl rfl hl.1 rfl (lv_room (Nat.le_of_ble_eq_true rfl)) dX8_writeNumber_60 ⟨Nat.le_of_ble_eq_true rfl, Nat.le_of_ble_eq_true rfl⟩) hS (mm_sS hS) (fun H_60 L_60 hB_60 hz_60 hq_60 hS => ?_)
        obtain ⟨I_60, F_60, hT, hx_60, he_60, hO⟩ := hB_60
        exact mm_vret hx hb hr hlk hS (Nat.le_of_ble_eq_true rfl) (Nat.le_of_ble_eq_true rfl) (⟨rfl, _, _, hT, hx_12.tr (hx_49.tr hx_60), he_12.tr (he_49.tr he_60), by unfold nds_ dgs; rw [if_pos (Int32.not_le.mp c_6), if_neg (by omega), if_pos (by omega)]; simpa only [List.append_assoc, List.nil_append, List.cons_append] using hO⟩) dX8_writeNumber_63
    · refine lv_aload_n hx hb dX8_writeNumber_21 rfl (lv_at hl 1 rfl) ?_
      refine lv_bipush (v := nI 48) hx hb dX8_writeNumber_22 (by decide) ?_
      refine lv_iload_n hx hb dX8_writeNumber_24 rfl (lv_at hl 0 rfl) ?_
      refine lv_bipush (v := nI 100) hx hb dX8_writeNumber_25 (by decide) ?_
      refine mm_idiv (by omega) (by omega) (by omega) hx hb dX8_writeNumber_27 ?_
      refine mm_iadd hx hb dX8_writeNumber_28 ?_
      refine mm_rv (va_runV (As := [.int (nI (48 + (absN v) / 100))]) (rest := []) ⟨hx, hb, hml, hown, hts⟩ (t_write l (os := (os ++ [nI 45])) (ch := (48 + (absN v) / 100)) hT hO (by first | omega | (simp only [List.length_append, List.length_cons, List.length_nil]; omega)) (by omega)) (cwV 1 hts (lw_V q3079 q3081 qs130 q164 q3082) rfl rfl rfl (by decide +kernel) ⟨Nat.le_of_ble_eq_true rfl, Nat.le_of_ble_eq_true rfl⟩) (mm_pV hKK (mm_rc hKK hT.2.1 mm_le.rf rfl)) rfl rfl hl.1 rfl (lv_room (Nat.le_of_ble_eq_true rfl)) dX8_writeNumber_29 ⟨Nat.le_of_ble_eq_true rfl, Nat.le_of_ble_eq_true rfl⟩) hS (mm_sS hS) (fun H_29 L_29 hB_29 hz_29 hq_29 hS => ?_)
      obtain ⟨I_29, F_29, hT, hx_29, he_29, hO⟩ := hB_29
      refine lv_iload_n hx hb dX8_writeNumber_32 rfl (lv_at hl 0 rfl) ?_
      refine lv_bipush (v := nI 9) hx hb dX8_writeNumber_33 (by decide) ?_
      refine mm_icmp_le (tgt := 52) (by omega) (by omega) hx hb dX8_writeNumber_35 (by decide) (fun c_35 => ?_) (fun c_35 => ?_)
      · refine lv_aload_n hx hb dX8_writeNumber_52 rfl (lv_at hl 1 rfl) ?_
        refine lv_bipush (v := nI 48) hx hb dX8_writeNumber_53 (by decide) ?_
        refine lv_iload_n hx hb dX8_writeNumber_55 rfl (lv_at hl 0 rfl) ?_
        refine lv_bipush (v := nI 10) hx hb dX8_writeNumber_56 (by decide) ?_
        refine mm_irem (by omega) (by omega) (by omega) hx hb dX8_writeNumber_58 ?_
        refine mm_iadd hx hb dX8_writeNumber_59 ?_
        refine mm_rv (va_runV (As := [.int (nI (48 + (absN v) % 10))]) (rest := []) ⟨hx, hb, hml, hown, hts⟩ (t_write l (os := (os ++ [nI 45] ++ [nI (48 + (absN v) / 100)])) (ch := (48 + (absN v) % 10)) hT hO (by first | omega | (simp only [List.length_append, List.length_cons, List.length_nil]; omega)) (by omega)) (cwV 1 hts (lw_V q3079 q3081 qs130 q164 q3082) rfl rfl rfl (by decide +kernel) ⟨Nat.le_of_ble_eq_true rfl, Nat.le_of_ble_eq_true rfl⟩) (mm_pV hKK (mm_rc hKK hT.2.1 mm_le.rf rfl)) rfl rfl hl.1 rfl (lv_room (Nat.le_of_ble_eq_true rfl)) dX8_writeNumber_60 ⟨Nat.le_of_ble_eq_true rfl, Nat.le_of_ble_eq_true rfl⟩) hS (mm_sS hS) (fun H_60 L_60 hB_60 hz_60 hq_60 hS => ?_)
        obtain ⟨I_60, F_60, hT, hx_60, he_60, hO⟩ := hB_60
        exact mm_vret hx hb hr hlk hS (Nat.le_of_ble_eq_true rfl) (Nat.le_of_ble_eq_true rfl) (⟨rfl, _, _, hT, hx_12.tr (hx_29.tr hx_60), he_12.tr (he_29.tr he_60), by unfold nds_ dgs; rw [if_pos (Int32.not_le.mp c_6), if_pos (by omega), if_neg (by omega)]; simpa only [List.append_assoc, List.nil_append, List.cons_append] using hO⟩) dX8_writeNumber_63
      · refine lv_aload_n hx hb dX8_writeNumber_38 rfl (lv_at hl 1 rfl) ?_
        refine lv_bipush (v := nI 48) hx hb dX8_writeNumber_39 (by decide) ?_
        refine lv_iload_n hx hb dX8_writeNumber_41 rfl (lv_at hl 0 rfl) ?_
        refine lv_bipush (v := nI 10) hx hb dX8_writeNumber_42 (by decide) ?_
        refine mm_idiv (by omega) (by omega) (by omega) hx hb dX8_writeNumber_44 ?_
        refine lv_bipush (v := nI 10) hx hb dX8_writeNumber_45 (by decide) ?_
        refine mm_irem (by omega) (by omega) (by omega) hx hb dX8_writeNumber_47 ?_
        refine mm_iadd hx hb dX8_writeNumber_48 ?_
        refine mm_rv (va_runV (As := [.int (nI (48 + ((absN v) / 10) % 10))]) (rest := []) ⟨hx, hb, hml, hown, hts⟩ (t_write l (os := (os ++ [nI 45] ++ [nI (48 + (absN v) / 100)])) (ch := (48 + ((absN v) / 10) % 10)) hT hO (by first | omega | (simp only [List.length_append, List.length_cons, List.length_nil]; omega)) (by omega)) (cwV 1 hts (lw_V q3079 q3081 qs130 q164 q3082) rfl rfl rfl (by decide +kernel) ⟨Nat.le_of_ble_eq_true rfl, Nat.le_of_ble_eq_true rfl⟩) (mm_pV hKK (mm_rc hKK hT.2.1 mm_le.rf rfl)) rfl rfl hl.1 rfl (lv_room (Nat.le_of_ble_eq_true rfl)) dX8_writeNumber_49 ⟨Nat.le_of_ble_eq_true rfl, Nat.le_of_ble_eq_true rfl⟩) hS (mm_sS hS) (fun H_49 L_49 hB_49 hz_49 hq_49 hS => ?_)
        obtain ⟨I_49, F_49, hT, hx_49, he_49, hO⟩ := hB_49
        refine lv_aload_n hx hb dX8_writeNumber_52 rfl (lv_at hl 1 rfl) ?_
        refine lv_bipush (v := nI 48) hx hb dX8_writeNumber_53 (by decide) ?_
        refine lv_iload_n hx hb dX8_writeNumber_55 rfl (lv_at hl 0 rfl) ?_
        refine lv_bipush (v := nI 10) hx hb dX8_writeNumber_56 (by decide) ?_
        refine mm_irem (by omega) (by omega) (by omega) hx hb dX8_writeNumber_58 ?_
        refine mm_iadd hx hb dX8_writeNumber_59 ?_
        refine mm_rv (va_runV (As := [.int (nI (48 + (absN v) % 10))]) (rest := []) ⟨hx, hb, hml, hown, hts⟩ (t_write l (os := (os ++ [nI 45] ++ [nI (48 + (absN v) / 100)] ++ [nI (48 + ((absN v) / 10) % 10)])) (ch := (48 + (absN v) % 10)) hT hO (by first | omega | (simp only [List.length_append, List.length_cons, List.length_nil]; omega)) (by omega)) (cwV 1 hts (lw_V q3079 q3081 qs130 q164 q3082) rfl rfl rfl (by decide +kernel) ⟨Nat.le_of_ble_eq_true rfl, Nat.le_of_ble_eq_true rfl⟩) (mm_pV hKK (mm_rc hKK hT.2.1 mm_le.rf rfl)) rfl rfl hl.1 rfl (lv_room (Nat.le_of_ble_eq_true rfl)) dX8_writeNumber_60 ⟨Nat.le_of_ble_eq_true rfl, Nat.le_of_ble_eq_true rfl⟩) hS (mm_sS hS) (fun H_60 L_60 hB_60 hz_60 hq_60 hS => ?_)
        obtain ⟨I_60, F_60, hT, hx_60, he_60, hO⟩ := hB_60
        exact mm_vret hx hb hr hlk hS (Nat.le_of_ble_eq_true rfl) (Nat.le_of_ble_eq_true rfl) (⟨rfl, _, _, hT, hx_12.tr (hx_29.tr (hx_49.tr hx_60)), he_12.tr (he_29.tr (he_49.tr he_60)), by unfold nds_ dgs; rw [if_pos (Int32.not_le.mp c_6), if_pos (by omega), if_pos (by omega)]; simpa only [List.append_assoc, List.nil_append, List.cons_append] using hO⟩) dX8_writeNumber_63
set_option maxRecDepth 100000 in
theorem tm_writeVersion (l : Launch) {G : mm_G} {P : mm_H} {H : Heap} {x : Nat} {ad : Nat → Nat} {I : Nat → Int32} {F : Nat → Nat → Int32} {S : sp_S} {a : Int32} (hT : TW G x ad I F H) (hR : TR (F 0) S) (hW : WF S) (hvl9 : ∀ v, v < s_nv S → ∀ i, i < s_len S v → inV (s_els S v i) = true) : Mt l yX8_writeVersion (ws_ yX8_writeVersion cX8_writeVersion 3 (some .int)) 6 300 0 0 G P [.ref x, .int a] H (tw_M x ad) (mm_i (qv (isLv S a) (nI (wvA (s_els S a.toNatClampNeg) (s_len S a.toNatClampNeg)).length)) (fun H2 => ∃ I2 F2, TW G x ad I2 F2 H2 ∧ if isLv S a = true then exI [27] (upd I 6 (ck (inR a (s_nv S)) (isLv S a) true)) I2 ∧ eqx [26] F F2 ∧ OU (wvA (s_els S a.toNatClampNeg) (s_len S a.toNatClampNeg)) I2 F2 else I2 = upd I 6 (ck (inR a (s_nv S)) (isLv S a) true) ∧ F2 = F)) := by
  refine Mt.of (by decide) (Nat.le_of_ble_eq_true rfl) (fun p e s m below meth c ls hx hb hr hlk hml hown hnm hts hKK hsH hl hS => ?_)
  have hl : lv_has ls 3 [(0, .ref x), (1, .int a)] := hl
  have hR0 := hR
  have hMx : mm_A (tw_M x ad) H x := Or.inl (Or.inl rfl)
  have hMa : ∀ j, tw_isA j = true → mm_A (tw_M x ad) H (ad j) := fun j hj => Or.inl (Or.inr ⟨j, hj, rfl⟩)
  have hnv := hW.nv
  have hnn := hW.nn
  refine lv_aload_n hx hb dX8_writeVersion_0 rfl (lv_at hl 0 rfl) ?_
  refine lv_iload_n hx hb dX8_writeVersion_1 rfl (lv_at hl 1 rfl) ?_
  refine mm_ri (va_runV (As := [.int a]) (rest := []) ⟨hx, hb, hml, hown, hts⟩ (t_checkLive l hT hR hW) (cwV 1 hts (lw_V q2869 q2871 qs112 q164 q2872) rfl rfl rfl (by decide +kernel) ⟨Nat.le_of_ble_eq_true rfl, Nat.le_of_ble_eq_true rfl⟩) (mm_pV hKK (mm_rc hKK hT.2.1 mm_le.rf rfl)) rfl rfl hl.1 rfl (lv_room (Nat.le_of_ble_eq_true rfl)) dX8_writeVersion_2 ⟨Nat.le_of_ble_eq_true rfl, Nat.le_of_ble_eq_true rfl⟩) hS (mm_sS hS) (fun H_2 L_2 hT hz_2 hq_2 hS => ?_)
  refine mm_ifneB (tgt := 10) hx hb dX8_writeVersion_5 (by decide) (fun c_5 => ?_) (fun c_5 => ?_)
  · obtain ⟨hina, hrla⟩ := isLv_in c_5
    obtain ⟨ja, hja, heja, hcja⟩ := inR_t hina
    rw [heja] at hl
    rw [hcja] at hrla
    refine lv_aload_n hx hb dX8_writeVersion_10 rfl (lv_at hl 0 rfl) ?_
    refine lv_iconst (v := nI 0) hx hb dX8_writeVersion_11 (by decide) ?_
    refine tw_put 27 hx hb hts hown hKK hT hS (hMx) (by decide) rfl (by decide) ⟨rfl, rfl⟩ (hts _ q2525) dX8_writeVersion_12 (fun H_12 L_12 hT hz_12 hq_12 hS => ?_)
    have hlenj := hW.len hja
    have hvl := hvl9 ja hja
    have hO : OU [] (upd (upd I 6 (ck (inR a (s_nv S)) (isLv S a) true)) 27 (nI 0)) F := ⟨tw_up _ _ _, fun i hi => absurd hi (Nat.not_lt_zero _)⟩
    refine lv_aload_n hx hb dX8_writeVersion_15 rfl (lv_at hl 0 rfl) ?_
    refine lv_bipush (v := nI 91) hx hb dX8_writeVersion_16 (by decide) ?_
    refine mm_rv (va_runV (As := [.int (nI 91)]) (rest := []) ⟨hx, hb, hml, hown, hts⟩ (t_write l (os := (([] : List Int32))) (ch := 91) hT hO (by decide) (by omega)) (cwV 1 hts (lw_V q3079 q3081 qs130 q164 q3082) rfl rfl rfl (by decide +kernel) ⟨Nat.le_of_ble_eq_true rfl, Nat.le_of_ble_eq_true rfl⟩) (mm_pV hKK (mm_rc hKK hT.2.1 mm_le.rf rfl)) rfl rfl hl.1 rfl (lv_room (Nat.le_of_ble_eq_true rfl)) dX8_writeVersion_18 ⟨Nat.le_of_ble_eq_true rfl, Nat.le_of_ble_eq_true rfl⟩) hS (mm_sS hS) (fun H_18 L_18 hB_18 hz_18 hq_18 hS => ?_)
    obtain ⟨I_18, F_18, hT, hx_18, he_18, hO⟩ := hB_18
    have hR := TRx he_18 (by decide) hR
    refine lv_iconst (v := nI 0) hx hb dX8_writeVersion_21 (by decide) ?_
    refine lv_istore_n (lv' := [(2, .int (nI 0)), (0, .ref x), (1, .int (nI ja))]) hx hb dX8_writeVersion_22 rfl hl (by decide) rfl (fun ls hl => ?_)
    have lp_23 : ∀ (fu : Nat) (i : Nat) (H1 : Heap) (I1 : Nat → Int32) (F1 : Nat → Nat → Int32) (L : List Loc) (ls : Array Slot), s_len S ja - i < fu → (i ≤ s_len S ja) → lv_has ls 3 [(2, .int (nI i)), (0, .ref x), (1, .int (nI ja))] → (TW G x ad I1 F1 H1) → (exI [27] (upd I 6 (ck (inR a (s_nv S)) (isLv S a) true)) I1) → (eqx [26] F F1) → (OU (wvB (s_els S ja) i) I1 F1) → va_S (mm_A (tw_M x ad) H) H H1 L → W p l e (mm_rm 6 300 0 0) s m ([.ref x, .int a] : List Value).toArray below meth c H1 L 0 0 (MQ below (mm_Qc H (tw_M x ad) (mm_i (qv (isLv S a) (nI (wvA (s_els S a.toNatClampNeg) (s_len S a.toNatClampNeg)).length)) (fun H2 => ∃ I2 F2, TW G x ad I2 F2 H2 ∧ if isLv S a = true then exI [27] (upd I 6 (ck (inR a (s_nv S)) (isLv S a) true)) I2 ∧ eqx [26] F F2 ∧ OU (wvA (s_els S a.toNatClampNeg) (s_len S a.toNatClampNeg)) I2 F2 else I2 = upd I 6 (ck (inR a (s_nv S)) (isLv S a) true) ∧ F2 = F))) ([.ref x, .int a] : List Value).toArray s 0 0 (mm_A (tw_M x ad) H)) (F0 m 23 ls []) := by
      intro fu; induction fu with
      | zero => intro i H1 I1 F1 L ls hfu; exact absurd hfu (Nat.not_lt_zero _)
      | succ fu ih =>
        intro i H1 I1 F1 L ls hfu hi hl hT hxi hei hO hS
        have ih_23 := ih
        have hR := TRx hei (by decide) hR0
        refine lv_iload_n hx hb dX8_writeVersion_23 rfl (lv_at hl 0 rfl) ?_
        refine lv_aload_n hx hb dX8_writeVersion_24 rfl (lv_at hl 1 rfl) ?_
        refine lv_iload_n hx hb dX8_writeVersion_25 rfl (lv_at hl 2 rfl) ?_
        refine mm_rpu (va_runV (As := [.int (nI ja)]) (rest := [.int (nI i)]) ⟨hx, hb, hml, hown, hts⟩ (t_lengthOf l hT hR hW (by first | assumption | omega)) (cwV 1 hts (lw_V q2487 q2489 qs60 q164 q2490) rfl rfl rfl (by decide +kernel) ⟨Nat.le_of_ble_eq_true rfl, Nat.le_of_ble_eq_true rfl⟩) (mm_pV hKK (mm_rc hKK hT.2.1 mm_le.rf rfl)) rfl rfl hl.1 rfl (lv_room (Nat.le_of_ble_eq_true rfl)) dX8_writeVersion_26 ⟨Nat.le_of_ble_eq_true rfl, Nat.le_of_ble_eq_true rfl⟩) hS (mm_s0 hS) (fun L_26 hS => ?_)
        refine mm_icmp_ge (tgt := 69) (by omega) (by omega) hx hb dX8_writeVersion_29 (by decide) (fun c_29 => ?_) (fun c_29 => ?_)
        · refine lv_aload_n hx hb dX8_writeVersion_69 rfl (lv_at hl 1 rfl) ?_
          refine lv_bipush (v := nI 93) hx hb dX8_writeVersion_70 (by decide) ?_
          refine mm_rv (va_runV (As := [.int (nI 93)]) (rest := []) ⟨hx, hb, hml, hown, hts⟩ (t_write l (os := (wvB (s_els S ja) i)) (ch := 93) hT hO (by have := wvB_len (s_els S ja) i; first | omega | (simp only [List.length_append, List.length_cons, List.length_nil]; omega)) (by omega)) (cwV 1 hts (lw_V q3079 q3081 qs130 q164 q3082) rfl rfl rfl (by decide +kernel) ⟨Nat.le_of_ble_eq_true rfl, Nat.le_of_ble_eq_true rfl⟩) (mm_pV hKK (mm_rc hKK hT.2.1 mm_le.rf rfl)) rfl rfl hl.1 rfl (lv_room (Nat.le_of_ble_eq_true rfl)) dX8_writeVersion_72 ⟨Nat.le_of_ble_eq_true rfl, Nat.le_of_ble_eq_true rfl⟩) hS (mm_sS hS) (fun H_72 L_72 hB_72 hz_72 hq_72 hS => ?_)
          obtain ⟨I_72, F_72, hT, hx_72, he_72, hO⟩ := hB_72
          have hR := TRx he_72 (by decide) hR
          have hOw : OU (wvA (s_els S ja) (s_len S ja)) I_72 F_72 := by unfold wvA; rw [show s_len S ja = i by omega]; exact hO
          refine lv_aload_n hx hb dX8_writeVersion_75 rfl (lv_at hl 1 rfl) ?_
          refine tw_geti 27 (v := nI ((wvA (s_els S ja) (s_len S ja)).length)) hx hb hts hown hKK hT (by decide) rfl (hOw.1) (hts _ q2525) dX8_writeVersion_76 ?_
          exact mm_iret (v := nI ((wvA (s_els S ja) (s_len S ja)).length)) hx hb hr hlk hS (Nat.le_of_ble_eq_true rfl) (Nat.le_of_ble_eq_true rfl) (⟨by rw [qv_t c_5, hcja], _, _, hT, by rw [if_pos c_5, hcja]; exact ⟨hxi.tr hx_72, hei.tr he_72, hOw⟩⟩) dX8_writeVersion_79
        · refine lv_iload_n hx hb dX8_writeVersion_32 rfl (lv_at hl 0 rfl) ?_
          refine mm_if_le (tgt := 53) (by omega) hx hb dX8_writeVersion_33 (by decide) (fun c_33 => ?_) (fun c_33 => ?_)
          · refine lv_aload_n hx hb dX8_writeVersion_53 rfl (lv_at hl 1 rfl) ?_
            refine lv_aload_n hx hb dX8_writeVersion_54 rfl (lv_at hl 1 rfl) ?_
            refine lv_iload_n hx hb dX8_writeVersion_55 rfl (lv_at hl 2 rfl) ?_
            refine lv_iload_n hx hb dX8_writeVersion_56 rfl (lv_at hl 0 rfl) ?_
            refine mm_rpu (va_runV (As := [.int (nI ja), .int (nI i)]) (rest := [.ref x]) ⟨hx, hb, hml, hown, hts⟩ (t_element l hT hR hW (by first | assumption | omega) (by first | assumption | omega)) (cwV 2 hts (lw_V q2494 q2496 qs61 q164 q2497) rfl rfl rfl (by decide +kernel) ⟨Nat.le_of_ble_eq_true rfl, Nat.le_of_ble_eq_true rfl⟩) (mm_pV hKK (mm_rc hKK hT.2.1 mm_le.rf rfl)) rfl rfl hl.1 rfl (lv_room (Nat.le_of_ble_eq_true rfl)) dX8_writeVersion_57 ⟨Nat.le_of_ble_eq_true rfl, Nat.le_of_ble_eq_true rfl⟩) hS (mm_s0 hS) (fun L_57 hS => ?_)
            refine mm_rv (va_runV (As := [.int (s_els S ja i)]) (rest := []) ⟨hx, hb, hml, hown, hts⟩ (t_writeNumber l (os := (wvB (s_els S ja) i)) hT hO (by have := wvB_len (s_els S ja) i; first | omega | (simp only [List.length_append, List.length_cons, List.length_nil]; omega)) (hvl _ (by omega))) (cwV 1 hts (lw_V q3083 q3085 qs131 q164 q3086) rfl rfl rfl (by decide +kernel) ⟨Nat.le_of_ble_eq_true rfl, Nat.le_of_ble_eq_true rfl⟩) (mm_pV hKK (mm_rc hKK hT.2.1 mm_le.rf rfl)) rfl rfl hl.1 rfl (lv_room (Nat.le_of_ble_eq_true rfl)) dX8_writeVersion_60 ⟨Nat.le_of_ble_eq_true rfl, Nat.le_of_ble_eq_true rfl⟩) hS (mm_sS hS) (fun H_60 L_60 hB_60 hz_60 hq_60 hS => ?_)
            obtain ⟨I_60, F_60, hT, hx_60, he_60, hO⟩ := hB_60
            have hR := TRx he_60 (by decide) hR
            refine lv_iinc (v := nI (i + 1)) (lv' := [(2, .int (nI (i + 1))), (0, .ref x), (1, .int (nI ja))]) hx hb dX8_writeVersion_63 hl (k := 0) rfl (nI_add _ _) (by decide) rfl (fun ls hl => ?_)
            refine lv_goto (tgt := 23) hx hb dX8_writeVersion_66 (by decide) ?_
            exact ih_23 (i + 1) H_60 I_60 F_60 _ _ (by omega) (by omega) (lv_sub hl [0, 1, 2] rfl) hT (hxi.tr (hx_60)) (hei.tr (he_60)) (by show OU (wvB (s_els S ja) i ++ (sepB i ++ nds_ (s_els S ja i))) _ _; unfold sepB; rw [if_pos (by omega)]; simpa only [List.append_assoc, List.nil_append] using hO) hS
          · refine lv_aload_n hx hb dX8_writeVersion_36 rfl (lv_at hl 1 rfl) ?_
            refine lv_iload_n hx hb dX8_writeVersion_37 rfl (lv_at hl 0 rfl) ?_
            refine lv_iconst (v := nI 4) hx hb dX8_writeVersion_38 (by decide) ?_
            refine mm_irem (by omega) (by omega) (by omega) hx hb dX8_writeVersion_39 ?_
            refine mm_if_ne (tgt := 48) (by omega) hx hb dX8_writeVersion_40 (by decide) (fun c_40 => ?_) (fun c_40 => ?_)
            · refine lv_bipush (v := nI 44) hx hb dX8_writeVersion_48 (by decide) ?_
              refine mm_rv (va_runV (As := [.int (nI 44)]) (rest := []) ⟨hx, hb, hml, hown, hts⟩ (t_write l (os := (wvB (s_els S ja) i)) (ch := 44) hT hO (by have := wvB_len (s_els S ja) i; first | omega | (simp only [List.length_append, List.length_cons, List.length_nil]; omega)) (by omega)) (cwV 1 hts (lw_V q3079 q3081 qs130 q164 q3082) rfl rfl rfl (by decide +kernel) ⟨Nat.le_of_ble_eq_true rfl, Nat.le_of_ble_eq_true rfl⟩) (mm_pV hKK (mm_rc hKK hT.2.1 mm_le.rf rfl)) rfl rfl hl.1 rfl (lv_room (Nat.le_of_ble_eq_true rfl)) dX8_writeVersion_50 ⟨Nat.le_of_ble_eq_true rfl, Nat.le_of_ble_eq_true rfl⟩) hS (mm_sS hS) (fun H_50 L_50 hB_50 hz_50 hq_50 hS => ?_)
              obtain ⟨I_50, F_50, hT, hx_50, he_50, hO⟩ := hB_50
              have hR := TRx he_50 (by decide) hR
              refine lv_aload_n hx hb dX8_writeVersion_53 rfl (lv_at hl 1 rfl) ?_
              refine lv_aload_n hx hb dX8_writeVersion_54 rfl (lv_at hl 1 rfl) ?_
              refine lv_iload_n hx hb dX8_writeVersion_55 rfl (lv_at hl 2 rfl) ?_
              refine lv_iload_n hx hb dX8_writeVersion_56 rfl (lv_at hl 0 rfl) ?_
              refine mm_rpu (va_runV (As := [.int (nI ja), .int (nI i)]) (rest := [.ref x]) ⟨hx, hb, hml, hown, hts⟩ (t_element l hT hR hW (by first | assumption | omega) (by first | assumption | omega)) (cwV 2 hts (lw_V q2494 q2496 qs61 q164 q2497) rfl rfl rfl (by decide +kernel) ⟨Nat.le_of_ble_eq_true rfl, Nat.le_of_ble_eq_true rfl⟩) (mm_pV hKK (mm_rc hKK hT.2.1 mm_le.rf rfl)) rfl rfl hl.1 rfl (lv_room (Nat.le_of_ble_eq_true rfl)) dX8_writeVersion_57 ⟨Nat.le_of_ble_eq_true rfl, Nat.le_of_ble_eq_true rfl⟩) hS (mm_s0 hS) (fun L_57 hS => ?_)
              refine mm_rv (va_runV (As := [.int (s_els S ja i)]) (rest := []) ⟨hx, hb, hml, hown, hts⟩ (t_writeNumber l (os := (wvB (s_els S ja) i ++ [nI 44])) hT hO (by have := wvB_len (s_els S ja) i; first | omega | (simp only [List.length_append, List.length_cons, List.length_nil]; omega)) (hvl _ (by omega))) (cwV 1 hts (lw_V q3083 q3085 qs131 q164 q3086) rfl rfl rfl (by decide +kernel) ⟨Nat.le_of_ble_eq_true rfl, Nat.le_of_ble_eq_true rfl⟩) (mm_pV hKK (mm_rc hKK hT.2.1 mm_le.rf rfl)) rfl rfl hl.1 rfl (lv_room (Nat.le_of_ble_eq_true rfl)) dX8_writeVersion_60 ⟨Nat.le_of_ble_eq_true rfl, Nat.le_of_ble_eq_true rfl⟩) hS (mm_sS hS) (fun H_60 L_60 hB_60 hz_60 hq_60 hS => ?_)
              obtain ⟨I_60, F_60, hT, hx_60, he_60, hO⟩ := hB_60
              have hR := TRx he_60 (by decide) hR
              refine lv_iinc (v := nI (i + 1)) (lv' := [(2, .int (nI (i + 1))), (0, .ref x), (1, .int (nI ja))]) hx hb dX8_writeVersion_63 hl (k := 0) rfl (nI_add _ _) (by decide) rfl (fun ls hl => ?_)
              refine lv_goto (tgt := 23) hx hb dX8_writeVersion_66 (by decide) ?_
              exact ih_23 (i + 1) H_60 I_60 F_60 _ _ (by omega) (by omega) (lv_sub hl [0, 1, 2] rfl) hT (hxi.tr (hx_50.tr hx_60)) (hei.tr (he_50.tr he_60)) (by show OU (wvB (s_els S ja) i ++ (sepB i ++ nds_ (s_els S ja i))) _ _; unfold sepB; rw [if_neg (by omega), if_neg (by omega)]; simpa only [List.append_assoc, List.nil_append] using hO) hS
            · refine lv_bipush (v := nI 124) hx hb dX8_writeVersion_43 (by decide) ?_
              refine lv_goto (tgt := 50) hx hb dX8_writeVersion_45 (by decide) ?_
              refine mm_rv (va_runV (As := [.int (nI 124)]) (rest := []) ⟨hx, hb, hml, hown, hts⟩ (t_write l (os := (wvB (s_els S ja) i)) (ch := 124) hT hO (by have := wvB_len (s_els S ja) i; first | omega | (simp only [List.length_append, List.length_cons, List.length_nil]; omega)) (by omega)) (cwV 1 hts (lw_V q3079 q3081 qs130 q164 q3082) rfl rfl rfl (by decide +kernel) ⟨Nat.le_of_ble_eq_true rfl, Nat.le_of_ble_eq_true rfl⟩) (mm_pV hKK (mm_rc hKK hT.2.1 mm_le.rf rfl)) rfl rfl hl.1 rfl (lv_room (Nat.le_of_ble_eq_true rfl)) dX8_writeVersion_50 ⟨Nat.le_of_ble_eq_true rfl, Nat.le_of_ble_eq_true rfl⟩) hS (mm_sS hS) (fun H_50 L_50 hB_50 hz_50 hq_50 hS => ?_)
              obtain ⟨I_50, F_50, hT, hx_50, he_50, hO⟩ := hB_50
              have hR := TRx he_50 (by decide) hR
              refine lv_aload_n hx hb dX8_writeVersion_53 rfl (lv_at hl 1 rfl) ?_
              refine lv_aload_n hx hb dX8_writeVersion_54 rfl (lv_at hl 1 rfl) ?_
              refine lv_iload_n hx hb dX8_writeVersion_55 rfl (lv_at hl 2 rfl) ?_
              refine lv_iload_n hx hb dX8_writeVersion_56 rfl (lv_at hl 0 rfl) ?_
              refine mm_rpu (va_runV (As := [.int (nI ja), .int (nI i)]) (rest := [.ref x]) ⟨hx, hb, hml, hown, hts⟩ (t_element l hT hR hW (by first | assumption | omega) (by first | assumption | omega)) (cwV 2 hts (lw_V q2494 q2496 qs61 q164 q2497) rfl rfl rfl (by decide +kernel) ⟨Nat.le_of_ble_eq_true rfl, Nat.le_of_ble_eq_true rfl⟩) (mm_pV hKK (mm_rc hKK hT.2.1 mm_le.rf rfl)) rfl rfl hl.1 rfl (lv_room (Nat.le_of_ble_eq_true rfl)) dX8_writeVersion_57 ⟨Nat.le_of_ble_eq_true rfl, Nat.le_of_ble_eq_true rfl⟩) hS (mm_s0 hS) (fun L_57 hS => ?_)
              refine mm_rv (va_runV (As := [.int (s_els S ja i)]) (rest := []) ⟨hx, hb, hml, hown, hts⟩ (t_writeNumber l (os := (wvB (s_els S ja) i ++ [nI 124])) hT hO (by have := wvB_len (s_els S ja) i; first | omega | (simp only [List.length_append, List.length_cons, List.length_nil]; omega)) (hvl _ (by omega))) (cwV 1 hts (lw_V q3083 q3085 qs131 q164 q3086) rfl rfl rfl (by decide +kernel) ⟨Nat.le_of_ble_eq_true rfl, Nat.le_of_ble_eq_true rfl⟩) (mm_pV hKK (mm_rc hKK hT.2.1 mm_le.rf rfl)) rfl rfl hl.1 rfl (lv_room (Nat.le_of_ble_eq_true rfl)) dX8_writeVersion_60 ⟨Nat.le_of_ble_eq_true rfl, Nat.le_of_ble_eq_true rfl⟩) hS (mm_sS hS) (fun H_60 L_60 hB_60 hz_60 hq_60 hS => ?_)
              obtain ⟨I_60, F_60, hT, hx_60, he_60, hO⟩ := hB_60
              have hR := TRx he_60 (by decide) hR
              refine lv_iinc (v := nI (i + 1)) (lv' := [(2, .int (nI (i + 1))), (0, .ref x), (1, .int (nI ja))]) hx hb dX8_writeVersion_63 hl (k := 0) rfl (nI_add _ _) (by decide) rfl (fun ls hl => ?_)
              refine lv_goto (tgt := 23) hx hb dX8_writeVersion_66 (by decide) ?_
              exact ih_23 (i + 1) H_60 I_60 F_60 _ _ (by omega) (by omega) (lv_sub hl [0, 1, 2] rfl) hT (hxi.tr (hx_50.tr hx_60)) (hei.tr (he_50.tr he_60)) (by show OU (wvB (s_els S ja) i ++ (sepB i ++ nds_ (s_els S ja i))) _ _; unfold sepB; rw [if_neg (by omega), if_pos (by omega)]; simpa only [List.append_assoc, List.nil_append] using hO) hS
    exact lp_23 _ 0 H_18 I_18 F_18 _ _ (Nat.lt_succ_self _) (by omega) (lv_sub hl [0, 1, 2] rfl) hT ((exI.u (by decide)).tr (hx_18.mono (by decide))) he_18 hO hS
  · refine lv_iconst (v := nI 0) hx hb dX8_writeVersion_8 (by decide) ?_
    exact mm_iret (v := nI 0) hx hb hr hlk hS (Nat.le_of_ble_eq_true rfl) (Nat.le_of_ble_eq_true rfl) (⟨by rw [qv_f c_5]; rfl, _, F, hT, by rw [if_neg (by rw [c_5]; decide)]; exact ⟨rfl, rfl⟩⟩) dX8_writeVersion_9
set_option maxRecDepth 100000 in
theorem tm_outputByte (l : Launch) {G : mm_G} {P : mm_H} {H : Heap} {x : Nat} {ad : Nat → Nat} {I : Nat → Int32} {F : Nat → Nat → Int32} {os : List Int32} {a : Int32} (hT : TW G x ad I F H) (hO : OU os I F) (hos : os.length ≤ 322) : Mt l yX8_outputByte (ws_ yX8_outputByte cX8_outputByte 2 (some .int)) 4 120 0 0 G P [.ref x, .int a] H (tw_M x ad) (mm_i (if inR a os.length = true then os.getD a.toNatClampNeg 0 else -1) (fun H2 => TW G x ad (upd I 6 (nI 0)) F H2)) := by
  refine Mt.of (by decide) (Nat.le_of_ble_eq_true rfl) (fun p e s m below meth c ls hx hb hr hlk hml hown hnm hts hKK hsH hl hS => ?_)
  have hl : lv_has ls 2 [(0, .ref x), (1, .int a)] := hl
  have hMx : mm_A (tw_M x ad) H x := Or.inl (Or.inl rfl)
  have hMa : ∀ j, tw_isA j = true → mm_A (tw_M x ad) H (ad j) := fun j hj => Or.inl (Or.inr ⟨j, hj, rfl⟩)
  refine lv_aload_n hx hb dX8_outputByte_0 rfl (lv_at hl 0 rfl) ?_
  refine lv_iconst (v := nI 0) hx hb dX8_outputByte_1 (by decide) ?_
  refine tw_put 6 hx hb hts hown hKK hT hS (hMx) (by decide) rfl (by decide) ⟨rfl, rfl⟩ (hts _ q2504) dX8_outputByte_2 (fun H_2 L_2 hT hz_2 hq_2 hS => ?_)
  refine lv_iload_n hx hb dX8_outputByte_5 rfl (lv_at hl 1 rfl) ?_
  refine lv_i2l (v := a.toInt64) hx hb dX8_outputByte_6 rfl ?_
  refine lv_lconst (v := 0) hx hb dX8_outputByte_7 (by decide) ?_
  refine lv_aload_n hx hb dX8_outputByte_8 rfl (lv_at hl 0 rfl) ?_
  refine tw_geti 27 (v := nI os.length) hx hb hts hown hKK hT (by decide) rfl ((tw_un (by decide)).trans (hO.1)) (hts _ q2525) dX8_outputByte_9 ?_
  refine lv_iconst (v := nI 1) hx hb dX8_outputByte_12 (by decide) ?_
  refine lv_isub hx hb dX8_outputByte_13 ?_
  refine lv_i2l (v := ((nI os.length) - (nI 1)).toInt64) hx hb dX8_outputByte_14 rfl ?_
  refine mm_rpu (va_runS (As := [.long a.toInt64, .long 0, .long (((nI os.length) - (nI 1)).toInt64)]) (rest := []) ⟨hx, hb, hml, hown, hts⟩ (t_isWithin l ) (va_cwS 3 hts (lw_S q2599 q2600 q164 q2601) rfl rfl rfl (by decide +kernel) ⟨Nat.le_of_ble_eq_true rfl, Nat.le_of_ble_eq_true rfl⟩) (mm_pS hKK) rfl rfl hl.1 rfl (lv_room (Nat.le_of_ble_eq_true rfl)) dX8_outputByte_15 ⟨Nat.le_of_ble_eq_true rfl, Nat.le_of_ble_eq_true rfl⟩) hS (mm_s0 hS) (fun L_15 hS => ?_)
  refine mm_top (y := mm_b (inR a (os.length))) (congrArg mm_b (w_inR a (n := os.length) (by omega))) ?_
  refine mm_ifeqB (tgt := 30) hx hb dX8_outputByte_18 (by decide) (fun c_18 => ?_) (fun c_18 => ?_)
  · refine lv_iconst (v := (-1)) hx hb dX8_outputByte_30 (by decide) ?_
    exact mm_iret (v := (-1)) hx hb hr hlk hS (Nat.le_of_ble_eq_true rfl) (Nat.le_of_ble_eq_true rfl) (⟨by rw [if_neg (by rw [c_18]; decide)], hT⟩) dX8_outputByte_31
  · obtain ⟨ja, hja, heja, hcja⟩ := inR_t c_18
    rw [heja] at hl
    refine lv_aload_n hx hb dX8_outputByte_21 rfl (lv_at hl 0 rfl) ?_
    refine tw_geta 26 hx hb hts hown hKK hT rfl rfl (hts _ q2524) dX8_outputByte_22 ?_
    refine lv_iload_n hx hb dX8_outputByte_25 rfl (lv_at hl 1 rfl) ?_
    refine mm_bald (k := ja) hx hb hKK (hT.2.2 26 rfl) mm_le.rf (by show _ < 322; omega) (by decide) dX8_outputByte_26 ?_
    refine mm_top (y := os.getD ja 0) (hO.2 ja hja) ?_
    refine lv_goto (tgt := 31) hx hb dX8_outputByte_27 (by decide) ?_
    exact mm_iret (v := os.getD ja 0) hx hb hr hlk hS (Nat.le_of_ble_eq_true rfl) (Nat.le_of_ble_eq_true rfl) (⟨by rw [if_pos c_18, hcja], hT⟩) dX8_outputByte_31
