/-! the twin: values, lists (printed by tools/tw21.py) -/
def p_sem (b : Nat → Int32) (n : Nat) (r : pR Nat) : pR Nat := match r with
  | .ok p => pSem b n p
  | .error e => .error e
theorem pSem_1 {b : Nat → Int32} {n p : Nat} (h : tkK b n p = 3) : p_sem b n (.ok p) = .ok (tkE b n p) := if_pos h
theorem pSem_2 {b : Nat → Int32} {n p : Nat} (h : ¬ tkK b n p = 3) : p_sem b n (.ok p) = .error (1, tkS b n p) := if_neg h
def p_val (b : Nat → Int32) (n : Nat) (rm : Bool) (r : pR Nat) : pR (Int32 × Nat) := match r with
  | .ok p => pVal b n rm p
  | .error e => .error e
section PV
variable {b : Nat → Int32} {n p q v : Nat} {rm : Bool} {e : Nat × Nat}
theorem pV_1 (h : isW b n p w_minus = false) (k : ¬ tkK b n p = 2) : p_val b n rm (.ok p) = .error (1, tkS b n p) := (if_neg (by rw [h]; decide)).trans (if_neg k)
theorem pV_2 (h : isW b n p w_minus = true) (k : rm = false) : p_val b n rm (.ok p) = .error (3, tkS b n p) := (if_pos h).trans (if_neg (by rw [k]; decide))
theorem pV_3 (h : isW b n p w_minus = false) (h2 : tkK b n p = 2) (k : rm = false) : p_val b n rm (.ok p) = .error (3, tkS b n p) := (if_neg (by rw [h]; decide)).trans ((if_pos h2).trans (if_neg (by rw [k]; decide)))
theorem pV_4 (h : isW b n p w_minus = true) (k : rm = true) (hN : pNum b n (tkE b n p) 999 = .ok (v, q)) : p_val b n rm (.ok p) = .ok (-nI v, q) := (if_pos h).trans ((if_pos k).trans (by rw [hN]))
theorem pV_5 (h : isW b n p w_minus = true) (k : rm = true) (hN : pNum b n (tkE b n p) 999 = .error e) : p_val b n rm (.ok p) = .error e := (if_pos h).trans ((if_pos k).trans (by rw [hN]))
theorem pV_6 (h : isW b n p w_minus = false) (h2 : tkK b n p = 2) (k : rm = true) (hN : pNum b n p 999 = .ok (v, q)) : p_val b n rm (.ok p) = .ok (nI v, q) := (if_neg (by rw [h]; decide)).trans ((if_pos h2).trans ((if_pos k).trans (by rw [hN])))
theorem pV_7 (h : isW b n p w_minus = false) (h2 : tkK b n p = 2) (k : rm = true) (hN : pNum b n p 999 = .error e) : p_val b n rm (.ok p) = .error e := (if_neg (by rw [h]; decide)).trans ((if_pos h2).trans ((if_pos k).trans (by rw [hN])))
end PV
set_option maxRecDepth 100000 in
theorem t_parseSemicolonok (l : Launch) {G : mm_G} {P : mm_H} {H : Heap} {x : Nat} {ad : Nat → Nat} {I : Nat → Int32} {F : Nat → Nat → Int32} {bt : Nat → Int32} {n : Nat} {p9 : Nat} (hT : TW G x ad I F H) (hX : TX_ bt n I F) (hP : PS bt n (.ok p9) I) : Mt l yX8_parseSemicolon (ws_ yX8_parseSemicolon cX8_parseSemicolon 1 none) 8 240 0 0 G P [.ref x] H (tw_M x ad) (mm_v (fun H2 => ∃ I2, TW G x ad I2 F H2 ∧ exI [16, 17, 18, 19, 20, 21] I I2 ∧ PS bt n (p_sem bt n (.ok p9)) I2)) := by
  refine Mt.of (by decide) (Nat.le_of_ble_eq_true rfl) (fun p e s m below meth c ls hx hb hr hlk hml hown hnm hts hKK hsH hl hS => ?_)
  have hl : lv_has ls 1 [(0, .ref x)] := hl
  have hMx : mm_A (tw_M x ad) H x := Or.inl (Or.inl rfl)
  have hMa : ∀ j, tw_isA j = true → mm_A (tw_M x ad) H (ad j) := fun j hj => Or.inl (Or.inr ⟨j, hj, rfl⟩)
  have hxi : exI [16, 17, 18, 19, 20, 21] I I := exI.rf
  have hn6 := hX.2.1
  have hbd_p9 := tk_bd (b := bt) (show p9 ≤ n from hP.1)
  refine lv_aload_n hx hb dX8_parseSemicolon_0 rfl (lv_at hl 0 rfl) ?_
  refine lv_aload_n hx hb dX8_parseSemicolon_1 rfl (lv_at hl 0 rfl) ?_
  refine tw_geti 18 (v := nI (tkK bt n p9)) hx hb hts hown hKK hT (by decide) rfl (hP.2.2.2.2.1) (hts _ q2516) dX8_parseSemicolon_2 ?_
  refine lv_iconst (v := nI 3) hx hb dX8_parseSemicolon_5 (by decide) ?_
  refine mm_icmp_ne (tgt := 13) (by omega) (by omega) hx hb dX8_parseSemicolon_6 (by decide) (fun c_6 => ?_) (fun c_6 => ?_)
  · refine lv_iconst (v := nI 0) hx hb dX8_parseSemicolon_13 (by decide) ?_
    refine mm_top (y := mm_b false) rfl ?_
    refine lv_iconst (v := nI 1) hx hb dX8_parseSemicolon_14 (by decide) ?_
    refine mm_rv (va_runV (As := [.int (mm_b false), .int (nI 1)]) (rest := []) ⟨hx, hb, hml, hown, hts⟩ (t_expect l hT hX hP (by decide) (by decide)) (cwV 2 hts (lw_V q2655 q2657 qs69 q164 q2658) rfl rfl rfl (by decide +kernel) ⟨Nat.le_of_ble_eq_true rfl, Nat.le_of_ble_eq_true rfl⟩) (mm_pV hKK (mm_rc hKK hT.2.1 mm_le.rf rfl)) rfl rfl hl.1 rfl (lv_room (Nat.le_of_ble_eq_true rfl)) dX8_parseSemicolon_15 ⟨Nat.le_of_ble_eq_true rfl, Nat.le_of_ble_eq_true rfl⟩) hS (mm_sS hS) (fun H_15 L_15 hB_15 hz_15 hq_15 hS => ?_)
    obtain ⟨I_15, hT, hx_15, hP⟩ := hB_15
    have hxi := hxi.tr (hx_15.mono (by decide))
    have hX : TX_ bt n I_15 F := ⟨(hx_15 13 (by decide)).trans hX.1, hX.2.1, hX.2.2⟩
    have hP : PS bt n (.error (1, tkS bt n p9)) I_15 := hP
    have hce_14 := hP.1
    refine lv_aload_n hx hb dX8_parseSemicolon_18 rfl (lv_at hl 0 rfl) ?_
    refine mm_rv (va_runV (As := []) (rest := []) ⟨hx, hb, hml, hown, hts⟩ (t_advance l hT hX hP) (cwV 0 hts (lw_V q2618 q2620 qs64 q164 q2621) rfl rfl rfl (by decide +kernel) ⟨Nat.le_of_ble_eq_true rfl, Nat.le_of_ble_eq_true rfl⟩) (mm_pV hKK (mm_rc hKK hT.2.1 mm_le.rf rfl)) rfl rfl hl.1 rfl (lv_room (Nat.le_of_ble_eq_true rfl)) dX8_parseSemicolon_19 ⟨Nat.le_of_ble_eq_true rfl, Nat.le_of_ble_eq_true rfl⟩) hS (mm_sS hS) (fun H_19 L_19 hB_19 hz_19 hq_19 hS => ?_)
    obtain ⟨I_19, hT, hx_19, hP⟩ := hB_19
    have hxi := hxi.tr (hx_19.mono (by decide))
    have hX : TX_ bt n I_19 F := ⟨(hx_19 13 (by decide)).trans hX.1, hX.2.1, hX.2.2⟩
    have hP : PS bt n (.error (1, tkS bt n p9)) I_19 := hP
    have hce_15 := hP.1
    exact mm_vret hx hb hr hlk hS (Nat.le_of_ble_eq_true rfl) (Nat.le_of_ble_eq_true rfl) (⟨rfl, _, hT, hxi, by rw [pSem_2 c_6]; exact hP⟩) dX8_parseSemicolon_22
  · refine lv_iconst (v := nI 1) hx hb dX8_parseSemicolon_9 (by decide) ?_
    refine mm_top (y := mm_b true) rfl ?_
    refine lv_goto (tgt := 14) hx hb dX8_parseSemicolon_10 (by decide) ?_
    refine lv_iconst (v := nI 1) hx hb dX8_parseSemicolon_14 (by decide) ?_
    refine mm_rv (va_runV (As := [.int (mm_b true), .int (nI 1)]) (rest := []) ⟨hx, hb, hml, hown, hts⟩ (t_expect l hT hX hP (by decide) (by decide)) (cwV 2 hts (lw_V q2655 q2657 qs69 q164 q2658) rfl rfl rfl (by decide +kernel) ⟨Nat.le_of_ble_eq_true rfl, Nat.le_of_ble_eq_true rfl⟩) (mm_pV hKK (mm_rc hKK hT.2.1 mm_le.rf rfl)) rfl rfl hl.1 rfl (lv_room (Nat.le_of_ble_eq_true rfl)) dX8_parseSemicolon_15 ⟨Nat.le_of_ble_eq_true rfl, Nat.le_of_ble_eq_true rfl⟩) hS (mm_sS hS) (fun H_15 L_15 hB_15 hz_15 hq_15 hS => ?_)
    obtain ⟨I_15, hT, hx_15, hP⟩ := hB_15
    have hxi := hxi.tr (hx_15.mono (by decide))
    have hX : TX_ bt n I_15 F := ⟨(hx_15 13 (by decide)).trans hX.1, hX.2.1, hX.2.2⟩
    have hP : PS bt n (.ok p9) I_15 := hP
    have hbd_p9 := tk_bd (b := bt) (show p9 ≤ n from hP.1)
    refine lv_aload_n hx hb dX8_parseSemicolon_18 rfl (lv_at hl 0 rfl) ?_
    refine mm_rv (va_runV (As := []) (rest := []) ⟨hx, hb, hml, hown, hts⟩ (t_advance l hT hX hP) (cwV 0 hts (lw_V q2618 q2620 qs64 q164 q2621) rfl rfl rfl (by decide +kernel) ⟨Nat.le_of_ble_eq_true rfl, Nat.le_of_ble_eq_true rfl⟩) (mm_pV hKK (mm_rc hKK hT.2.1 mm_le.rf rfl)) rfl rfl hl.1 rfl (lv_room (Nat.le_of_ble_eq_true rfl)) dX8_parseSemicolon_19 ⟨Nat.le_of_ble_eq_true rfl, Nat.le_of_ble_eq_true rfl⟩) hS (mm_sS hS) (fun H_19 L_19 hB_19 hz_19 hq_19 hS => ?_)
    obtain ⟨I_19, hT, hx_19, hP⟩ := hB_19
    have hxi := hxi.tr (hx_19.mono (by decide))
    have hX : TX_ bt n I_19 F := ⟨(hx_19 13 (by decide)).trans hX.1, hX.2.1, hX.2.2⟩
    have hP : PS bt n (.ok (tkE bt n p9)) I_19 := hP
    have hbd_tkE_bt_n_p9 := tk_bd (b := bt) (show tkE bt n p9 ≤ n from hP.1)
    exact mm_vret hx hb hr hlk hS (Nat.le_of_ble_eq_true rfl) (Nat.le_of_ble_eq_true rfl) (⟨rfl, _, hT, hxi, by rw [pSem_1 c_6]; exact hP⟩) dX8_parseSemicolon_22
set_option maxRecDepth 100000 in
theorem t_parseSemicoloner (l : Launch) {G : mm_G} {P : mm_H} {H : Heap} {x : Nat} {ad : Nat → Nat} {I : Nat → Int32} {F : Nat → Nat → Int32} {bt : Nat → Int32} {n : Nat} {c9 o9 : Nat} (hT : TW G x ad I F H) (hX : TX_ bt n I F) (hP : PS bt n (.error (c9, o9)) I) : Mt l yX8_parseSemicolon (ws_ yX8_parseSemicolon cX8_parseSemicolon 1 none) 8 240 0 0 G P [.ref x] H (tw_M x ad) (mm_v (fun H2 => ∃ I2, TW G x ad I2 F H2 ∧ exI [16, 17, 18, 19, 20, 21] I I2 ∧ PS bt n (p_sem bt n (.error (c9, o9))) I2)) := by
  refine Mt.of (by decide) (Nat.le_of_ble_eq_true rfl) (fun p e s m below meth c ls hx hb hr hlk hml hown hnm hts hKK hsH hl hS => ?_)
  have hl : lv_has ls 1 [(0, .ref x)] := hl
  have hMx : mm_A (tw_M x ad) H x := Or.inl (Or.inl rfl)
  have hMa : ∀ j, tw_isA j = true → mm_A (tw_M x ad) H (ad j) := fun j hj => Or.inl (Or.inr ⟨j, hj, rfl⟩)
  have hxi : exI [16, 17, 18, 19, 20, 21] I I := exI.rf
  have hn6 := hX.2.1
  have hce_16 := hP.1
  refine lv_aload_n hx hb dX8_parseSemicolon_0 rfl (lv_at hl 0 rfl) ?_
  refine lv_aload_n hx hb dX8_parseSemicolon_1 rfl (lv_at hl 0 rfl) ?_
  refine tw_geti 18 (v := I 18) hx hb hts hown hKK hT (by decide) rfl (rfl) (hts _ q2516) dX8_parseSemicolon_2 ?_
  refine lv_iconst (v := nI 3) hx hb dX8_parseSemicolon_5 (by decide) ?_
  refine lv_icmp_ne (tgt := 13) hx hb dX8_parseSemicolon_6 (by decide) (fun c_6 => ?_) (fun c_6 => ?_)
  · refine lv_iconst (v := nI 0) hx hb dX8_parseSemicolon_13 (by decide) ?_
    refine mm_top (y := mm_b false) rfl ?_
    refine lv_iconst (v := nI 1) hx hb dX8_parseSemicolon_14 (by decide) ?_
    refine mm_rv (va_runV (As := [.int (mm_b false), .int (nI 1)]) (rest := []) ⟨hx, hb, hml, hown, hts⟩ (t_expect l hT hX hP (by decide) (by decide)) (cwV 2 hts (lw_V q2655 q2657 qs69 q164 q2658) rfl rfl rfl (by decide +kernel) ⟨Nat.le_of_ble_eq_true rfl, Nat.le_of_ble_eq_true rfl⟩) (mm_pV hKK (mm_rc hKK hT.2.1 mm_le.rf rfl)) rfl rfl hl.1 rfl (lv_room (Nat.le_of_ble_eq_true rfl)) dX8_parseSemicolon_15 ⟨Nat.le_of_ble_eq_true rfl, Nat.le_of_ble_eq_true rfl⟩) hS (mm_sS hS) (fun H_15 L_15 hB_15 hz_15 hq_15 hS => ?_)
    obtain ⟨I_15, hT, hx_15, hP⟩ := hB_15
    have hxi := hxi.tr (hx_15.mono (by decide))
    have hX : TX_ bt n I_15 F := ⟨(hx_15 13 (by decide)).trans hX.1, hX.2.1, hX.2.2⟩
    have hP : PS bt n (.error (c9, o9)) I_15 := hP
    have hce_17 := hP.1
    refine lv_aload_n hx hb dX8_parseSemicolon_18 rfl (lv_at hl 0 rfl) ?_
    refine mm_rv (va_runV (As := []) (rest := []) ⟨hx, hb, hml, hown, hts⟩ (t_advance l hT hX hP) (cwV 0 hts (lw_V q2618 q2620 qs64 q164 q2621) rfl rfl rfl (by decide +kernel) ⟨Nat.le_of_ble_eq_true rfl, Nat.le_of_ble_eq_true rfl⟩) (mm_pV hKK (mm_rc hKK hT.2.1 mm_le.rf rfl)) rfl rfl hl.1 rfl (lv_room (Nat.le_of_ble_eq_true rfl)) dX8_parseSemicolon_19 ⟨Nat.le_of_ble_eq_true rfl, Nat.le_of_ble_eq_true rfl⟩) hS (mm_sS hS) (fun H_19 L_19 hB_19 hz_19 hq_19 hS => ?_)
    obtain ⟨I_19, hT, hx_19, hP⟩ := hB_19
    have hxi := hxi.tr (hx_19.mono (by decide))
    have hX : TX_ bt n I_19 F := ⟨(hx_19 13 (by decide)).trans hX.1, hX.2.1, hX.2.2⟩
    have hP : PS bt n (.error (c9, o9)) I_19 := hP
    have hce_18 := hP.1
    exact mm_vret hx hb hr hlk hS (Nat.le_of_ble_eq_true rfl) (Nat.le_of_ble_eq_true rfl) (⟨rfl, _, hT, hxi, hP⟩) dX8_parseSemicolon_22
  · refine lv_iconst (v := nI 1) hx hb dX8_parseSemicolon_9 (by decide) ?_
    refine mm_top (y := mm_b true) rfl ?_
    refine lv_goto (tgt := 14) hx hb dX8_parseSemicolon_10 (by decide) ?_
    refine lv_iconst (v := nI 1) hx hb dX8_parseSemicolon_14 (by decide) ?_
    refine mm_rv (va_runV (As := [.int (mm_b true), .int (nI 1)]) (rest := []) ⟨hx, hb, hml, hown, hts⟩ (t_expect l hT hX hP (by decide) (by decide)) (cwV 2 hts (lw_V q2655 q2657 qs69 q164 q2658) rfl rfl rfl (by decide +kernel) ⟨Nat.le_of_ble_eq_true rfl, Nat.le_of_ble_eq_true rfl⟩) (mm_pV hKK (mm_rc hKK hT.2.1 mm_le.rf rfl)) rfl rfl hl.1 rfl (lv_room (Nat.le_of_ble_eq_true rfl)) dX8_parseSemicolon_15 ⟨Nat.le_of_ble_eq_true rfl, Nat.le_of_ble_eq_true rfl⟩) hS (mm_sS hS) (fun H_15 L_15 hB_15 hz_15 hq_15 hS => ?_)
    obtain ⟨I_15, hT, hx_15, hP⟩ := hB_15
    have hxi := hxi.tr (hx_15.mono (by decide))
    have hX : TX_ bt n I_15 F := ⟨(hx_15 13 (by decide)).trans hX.1, hX.2.1, hX.2.2⟩
    have hP : PS bt n (.error (c9, o9)) I_15 := hP
    have hce_19 := hP.1
    refine lv_aload_n hx hb dX8_parseSemicolon_18 rfl (lv_at hl 0 rfl) ?_
    refine mm_rv (va_runV (As := []) (rest := []) ⟨hx, hb, hml, hown, hts⟩ (t_advance l hT hX hP) (cwV 0 hts (lw_V q2618 q2620 qs64 q164 q2621) rfl rfl rfl (by decide +kernel) ⟨Nat.le_of_ble_eq_true rfl, Nat.le_of_ble_eq_true rfl⟩) (mm_pV hKK (mm_rc hKK hT.2.1 mm_le.rf rfl)) rfl rfl hl.1 rfl (lv_room (Nat.le_of_ble_eq_true rfl)) dX8_parseSemicolon_19 ⟨Nat.le_of_ble_eq_true rfl, Nat.le_of_ble_eq_true rfl⟩) hS (mm_sS hS) (fun H_19 L_19 hB_19 hz_19 hq_19 hS => ?_)
    obtain ⟨I_19, hT, hx_19, hP⟩ := hB_19
    have hxi := hxi.tr (hx_19.mono (by decide))
    have hX : TX_ bt n I_19 F := ⟨(hx_19 13 (by decide)).trans hX.1, hX.2.1, hX.2.2⟩
    have hP : PS bt n (.error (c9, o9)) I_19 := hP
    have hce_20 := hP.1
    exact mm_vret hx hb hr hlk hS (Nat.le_of_ble_eq_true rfl) (Nat.le_of_ble_eq_true rfl) (⟨rfl, _, hT, hxi, hP⟩) dX8_parseSemicolon_22
theorem t_parseSemicolon (l : Launch) {G : mm_G} {P : mm_H} {H : Heap} {x : Nat} {ad : Nat → Nat} {I : Nat → Int32} {F : Nat → Nat → Int32} {bt : Nat → Int32} {n : Nat} {r : pR Nat} (hT : TW G x ad I F H) (hX : TX_ bt n I F) (hP : PS bt n (r) I) : Mt l yX8_parseSemicolon (ws_ yX8_parseSemicolon cX8_parseSemicolon 1 none) 8 240 0 0 G P [.ref x] H (tw_M x ad) (mm_v (fun H2 => ∃ I2, TW G x ad I2 F H2 ∧ exI [16, 17, 18, 19, 20, 21] I I2 ∧ PS bt n (p_sem bt n r) I2)) := by
  cases r with
  | ok p => exact t_parseSemicolonok l hT hX hP
  | error e => exact t_parseSemicoloner l hT hX hP
set_option maxRecDepth 100000 in
theorem t_parseValueok (l : Launch) {G : mm_G} {P : mm_H} {H : Heap} {x : Nat} {ad : Nat → Nat} {I : Nat → Int32} {F : Nat → Nat → Int32} {bt : Nat → Int32} {n : Nat} {p9 : Nat} {rm : Bool} (hT : TW G x ad I F H) (hX : TX_ bt n I F) (hP : PS bt n (.ok p9) I) (hF : mm_le P (mm_h H)) (hMP : ∀ q, tw_M x ad q → P q = none) : Mt l yX8_parseValue (ws_ yX8_parseValue cX8_parseValue 4 (some .int)) 10 300 0 0 G P [.ref x, .int (mm_b rm)] H (tw_M x ad) (mm_i (p_vI (p_val bt n rm (.ok p9))) (fun H2 => ∃ I2, TW G x ad I2 F H2 ∧ exI [16, 17, 18, 19, 20, 21] I I2 ∧ PS bt n (p_pos (p_val bt n rm (.ok p9))) I2)) := by
  refine Mt.of (by decide) (Nat.le_of_ble_eq_true rfl) (fun p e s m below meth c ls hx hb hr hlk hml hown hnm hts hKK hsH hl hS => ?_)
  have hl : lv_has ls 4 [(0, .ref x), (1, .int (mm_b rm))] := hl
  have hMx : mm_A (tw_M x ad) H x := Or.inl (Or.inl rfl)
  have hMa : ∀ j, tw_isA j = true → mm_A (tw_M x ad) H (ad j) := fun j hj => Or.inl (Or.inr ⟨j, hj, rfl⟩)
  have hxi : exI [16, 17, 18, 19, 20, 21] I I := exI.rf
  have hn6 := hX.2.1
  have hbd_p9 := tk_bd (b := bt) (show p9 ≤ n from hP.1)
  refine lv_aload_n hx hb dX8_parseValue_0 rfl (lv_at hl 0 rfl) ?_
  refine mm_ldcS (own := "VectorVersionsModel") hx hb hown (hKK.str 8 (by decide) rfl) dX8_parseValue_1 ?_
  refine mm_rpu (v := .int (mm_b (isW bt n p9 w_minus))) (va_runV (As := [.ref (G.2.2 (400 + 8))]) (rest := []) ⟨hx, hb, hml, hown, hts⟩ (t_isWord l hT hF (mm_bs.K (i := 8) (w := w_minus) (by decide) rfl) hX hP) (cwV 1 hts (lw_V q2639 q2641 qs68 q164 q2642) rfl rfl rfl (by decide +kernel) ⟨Nat.le_of_ble_eq_true rfl, Nat.le_of_ble_eq_true rfl⟩) (mm_pV hKK (mm_rc hKK hT.2.1 mm_le.rf rfl)) rfl rfl hl.1 rfl (lv_room (Nat.le_of_ble_eq_true rfl)) dX8_parseValue_3 ⟨Nat.le_of_ble_eq_true rfl, Nat.le_of_ble_eq_true rfl⟩) hS (mm_s0 hS) (fun L_3 hS => ?_)
  rcases Bool.eq_false_or_eq_true (isW bt n p9 w_minus) with hw_3 | hw_3
  · refine mm_top (y := mm_b true) (congrArg mm_b hw_3) ?_
    refine lv_istore_n (lv' := [(2, .int (mm_b true)), (0, .ref x), (1, .int (mm_b rm))]) hx hb dX8_parseValue_6 rfl hl (by decide) rfl (fun ls hl => ?_)
    refine lv_aload_n hx hb dX8_parseValue_7 rfl (lv_at hl 1 rfl) ?_
    refine lv_iload_n hx hb dX8_parseValue_8 rfl (lv_at hl 0 rfl) ?_
    refine mm_ifneB (tgt := 20) hx hb dX8_parseValue_9 (by decide) (fun c_9 => ?_) (fun c_9 => ?_)
    · refine lv_iconst (v := nI 1) hx hb dX8_parseValue_20 (by decide) ?_
      refine mm_top (y := mm_b true) rfl ?_
      refine lv_goto (tgt := 25) hx hb dX8_parseValue_21 (by decide) ?_
      refine lv_iconst (v := nI 1) hx hb dX8_parseValue_25 (by decide) ?_
      refine mm_rv (va_runV (As := [.int (mm_b true), .int (nI 1)]) (rest := []) ⟨hx, hb, hml, hown, hts⟩ (t_expect l hT hX hP (by decide) (by decide)) (cwV 2 hts (lw_V q2655 q2657 qs69 q164 q2658) rfl rfl rfl (by decide +kernel) ⟨Nat.le_of_ble_eq_true rfl, Nat.le_of_ble_eq_true rfl⟩) (mm_pV hKK (mm_rc hKK hT.2.1 mm_le.rf rfl)) rfl rfl hl.1 rfl (lv_room (Nat.le_of_ble_eq_true rfl)) dX8_parseValue_26 ⟨Nat.le_of_ble_eq_true rfl, Nat.le_of_ble_eq_true rfl⟩) hS (mm_sS hS) (fun H_26 L_26 hB_26 hz_26 hq_26 hS => ?_)
      obtain ⟨I_26, hT, hx_26, hP⟩ := hB_26
      have hxi := hxi.tr (hx_26.mono (by decide))
      have hX : TX_ bt n I_26 F := ⟨(hx_26 13 (by decide)).trans hX.1, hX.2.1, hX.2.2⟩
      have hF := hF.keep hq_26 hMP
      have hP : PS bt n (.ok p9) I_26 := hP
      have hbd_p9 := tk_bd (b := bt) (show p9 ≤ n from hP.1)
      refine lv_aload_n hx hb dX8_parseValue_29 rfl (lv_at hl 1 rfl) ?_
      refine lv_iload_n hx hb dX8_parseValue_30 rfl (lv_at hl 2 rfl) ?_
      refine lv_iconst (v := nI 3) hx hb dX8_parseValue_31 (by decide) ?_
      refine mm_rv (va_runV (As := [.int (mm_b rm), .int (nI 3)]) (rest := []) ⟨hx, hb, hml, hown, hts⟩ (t_expect l hT hX hP (by decide) (by decide)) (cwV 2 hts (lw_V q2655 q2657 qs69 q164 q2658) rfl rfl rfl (by decide +kernel) ⟨Nat.le_of_ble_eq_true rfl, Nat.le_of_ble_eq_true rfl⟩) (mm_pV hKK (mm_rc hKK hT.2.1 mm_le.rf rfl)) rfl rfl hl.1 rfl (lv_room (Nat.le_of_ble_eq_true rfl)) dX8_parseValue_32 ⟨Nat.le_of_ble_eq_true rfl, Nat.le_of_ble_eq_true rfl⟩) hS (mm_sS hS) (fun H_32 L_32 hB_32 hz_32 hq_32 hS => ?_)
      obtain ⟨I_32, hT, hx_32, hP⟩ := hB_32
      have hxi := hxi.tr (hx_32.mono (by decide))
      have hX : TX_ bt n I_32 F := ⟨(hx_32 13 (by decide)).trans hX.1, hX.2.1, hX.2.2⟩
      have hF := hF.keep hq_32 hMP
      rcases Bool.eq_false_or_eq_true (rm) with hb_32 | hb_32
      · rw [hb_32] at hP
        have hP : PS bt n (.ok p9) I_32 := hP
        have hbd_p9 := tk_bd (b := bt) (show p9 ≤ n from hP.1)
        refine lv_iload_n hx hb dX8_parseValue_35 rfl (lv_at hl 0 rfl) ?_
        refine mm_ifeqB (tgt := 43) hx hb dX8_parseValue_36 (by decide) (fun c_36 => ?_) (fun c_36 => ?_)
        · exact absurd c_36 (by decide)
        · refine lv_aload_n hx hb dX8_parseValue_39 rfl (lv_at hl 1 rfl) ?_
          refine mm_rv (va_runV (As := []) (rest := []) ⟨hx, hb, hml, hown, hts⟩ (t_advance l hT hX hP) (cwV 0 hts (lw_V q2618 q2620 qs64 q164 q2621) rfl rfl rfl (by decide +kernel) ⟨Nat.le_of_ble_eq_true rfl, Nat.le_of_ble_eq_true rfl⟩) (mm_pV hKK (mm_rc hKK hT.2.1 mm_le.rf rfl)) rfl rfl hl.1 rfl (lv_room (Nat.le_of_ble_eq_true rfl)) dX8_parseValue_40 ⟨Nat.le_of_ble_eq_true rfl, Nat.le_of_ble_eq_true rfl⟩) hS (mm_sS hS) (fun H_40 L_40 hB_40 hz_40 hq_40 hS => ?_)
          obtain ⟨I_40, hT, hx_40, hP⟩ := hB_40
          have hxi := hxi.tr (hx_40.mono (by decide))
          have hX : TX_ bt n I_40 F := ⟨(hx_40 13 (by decide)).trans hX.1, hX.2.1, hX.2.2⟩
          have hF := hF.keep hq_40 hMP
          have hP : PS bt n (.ok (tkE bt n p9)) I_40 := hP
          have hbd_tkE_bt_n_p9 := tk_bd (b := bt) (show tkE bt n p9 ≤ n from hP.1)
          refine lv_aload_n hx hb dX8_parseValue_43 rfl (lv_at hl 1 rfl) ?_
          refine lv_iconst (v := nI 0) hx hb dX8_parseValue_44 (by decide) ?_
          refine lv_sipush (v := nI 999) hx hb dX8_parseValue_45 (by decide) ?_
          refine mm_ri (va_runV (As := [.int (nI 0), .int (nI 999)]) (rest := []) ⟨hx, hb, hml, hown, hts⟩ (t_parseNumber l hT hX hP (by decide)) (cwV 2 hts (lw_V q2664 q2666 qs71 q164 q2667) rfl rfl rfl (by decide +kernel) ⟨Nat.le_of_ble_eq_true rfl, Nat.le_of_ble_eq_true rfl⟩) (mm_pV hKK (mm_rc hKK hT.2.1 mm_le.rf rfl)) rfl rfl hl.1 rfl (lv_room (Nat.le_of_ble_eq_true rfl)) dX8_parseValue_48 ⟨Nat.le_of_ble_eq_true rfl, Nat.le_of_ble_eq_true rfl⟩) hS (mm_sS hS) (fun H_48 L_48 hB_48 hz_48 hq_48 hS => ?_)
          obtain ⟨I_48, hT, hx_48, hP⟩ := hB_48
          have hxi := hxi.tr (hx_48.mono (by decide))
          have hX : TX_ bt n I_48 F := ⟨(hx_48 13 (by decide)).trans hX.1, hX.2.1, hX.2.2⟩
          have hF := hF.keep hq_48 hMP
          rcases hN_48 : pNum bt n (tkE bt n p9) 999 with ⟨c_48, o_48⟩ | ⟨v_48, q_48⟩
          · have hP : PS bt n (.error (c_48, o_48)) I_48 := by have hP : PS bt n (p_pos (pNum bt n (tkE bt n p9) 999)) I_48 := hP; rw [hN_48] at hP; exact hP
            have hce_21 := hP.1
            refine mm_top (y := nI 0) (by show nI (p_vN (pNum bt n (tkE bt n p9) 999)) = _; rw [hN_48]; rfl) ?_
            refine lv_istore_n (lv' := [(3, .int (nI 0)), (2, .int (mm_b true)), (0, .ref x), (1, .int (mm_b rm))]) hx hb dX8_parseValue_51 rfl hl (by decide) rfl (fun ls hl => ?_)
            refine lv_iload_n hx hb dX8_parseValue_52 rfl (lv_at hl 1 rfl) ?_
            refine mm_ifeqB (tgt := 61) hx hb dX8_parseValue_53 (by decide) (fun c_53 => ?_) (fun c_53 => ?_)
            · exact absurd c_53 (by decide)
            · refine lv_iload_n hx hb dX8_parseValue_56 rfl (lv_at hl 0 rfl) ?_
              refine lv_ineg hx hb dX8_parseValue_57 ?_
              refine lv_goto (tgt := 62) hx hb dX8_parseValue_58 (by decide) ?_
              exact mm_iret (v := -(nI 0)) hx hb hr hlk hS (Nat.le_of_ble_eq_true rfl) (Nat.le_of_ble_eq_true rfl) (⟨by rw [pV_5 hw_3 hb_32 hN_48]; rfl, _, hT, hxi, by rw [pV_5 hw_3 hb_32 hN_48]; exact hP⟩) dX8_parseValue_62
          · have hP : PS bt n (.ok q_48) I_48 := by have hP : PS bt n (p_pos (pNum bt n (tkE bt n p9) 999)) I_48 := hP; rw [hN_48] at hP; exact hP
            have hbd_q_48 := tk_bd (b := bt) (show q_48 ≤ n from hP.1)
            have hle_48 := pNum_le hN_48
            refine mm_top (y := nI v_48) (by show nI (p_vN (pNum bt n (tkE bt n p9) 999)) = _; rw [hN_48]; rfl) ?_
            refine lv_istore_n (lv' := [(3, .int (nI v_48)), (2, .int (mm_b true)), (0, .ref x), (1, .int (mm_b rm))]) hx hb dX8_parseValue_51 rfl hl (by decide) rfl (fun ls hl => ?_)
            refine lv_iload_n hx hb dX8_parseValue_52 rfl (lv_at hl 1 rfl) ?_
            refine mm_ifeqB (tgt := 61) hx hb dX8_parseValue_53 (by decide) (fun c_53 => ?_) (fun c_53 => ?_)
            · exact absurd c_53 (by decide)
            · refine lv_iload_n hx hb dX8_parseValue_56 rfl (lv_at hl 0 rfl) ?_
              refine lv_ineg hx hb dX8_parseValue_57 ?_
              refine lv_goto (tgt := 62) hx hb dX8_parseValue_58 (by decide) ?_
              exact mm_iret (v := -(nI v_48)) hx hb hr hlk hS (Nat.le_of_ble_eq_true rfl) (Nat.le_of_ble_eq_true rfl) (⟨by rw [pV_4 hw_3 hb_32 hN_48]; rfl, _, hT, hxi, by rw [pV_4 hw_3 hb_32 hN_48]; exact hP⟩) dX8_parseValue_62
      · rw [hb_32] at hP
        have hP : PS bt n (.error (3, tkS bt n p9)) I_32 := hP
        have hce_22 := hP.1
        refine lv_iload_n hx hb dX8_parseValue_35 rfl (lv_at hl 0 rfl) ?_
        refine mm_ifeqB (tgt := 43) hx hb dX8_parseValue_36 (by decide) (fun c_36 => ?_) (fun c_36 => ?_)
        · exact absurd c_36 (by decide)
        · refine lv_aload_n hx hb dX8_parseValue_39 rfl (lv_at hl 1 rfl) ?_
          refine mm_rv (va_runV (As := []) (rest := []) ⟨hx, hb, hml, hown, hts⟩ (t_advance l hT hX hP) (cwV 0 hts (lw_V q2618 q2620 qs64 q164 q2621) rfl rfl rfl (by decide +kernel) ⟨Nat.le_of_ble_eq_true rfl, Nat.le_of_ble_eq_true rfl⟩) (mm_pV hKK (mm_rc hKK hT.2.1 mm_le.rf rfl)) rfl rfl hl.1 rfl (lv_room (Nat.le_of_ble_eq_true rfl)) dX8_parseValue_40 ⟨Nat.le_of_ble_eq_true rfl, Nat.le_of_ble_eq_true rfl⟩) hS (mm_sS hS) (fun H_40 L_40 hB_40 hz_40 hq_40 hS => ?_)
          obtain ⟨I_40, hT, hx_40, hP⟩ := hB_40
          have hxi := hxi.tr (hx_40.mono (by decide))
          have hX : TX_ bt n I_40 F := ⟨(hx_40 13 (by decide)).trans hX.1, hX.2.1, hX.2.2⟩
          have hF := hF.keep hq_40 hMP
          have hP : PS bt n (.error (3, tkS bt n p9)) I_40 := hP
          have hce_23 := hP.1
          refine lv_aload_n hx hb dX8_parseValue_43 rfl (lv_at hl 1 rfl) ?_
          refine lv_iconst (v := nI 0) hx hb dX8_parseValue_44 (by decide) ?_
          refine lv_sipush (v := nI 999) hx hb dX8_parseValue_45 (by decide) ?_
          refine mm_ri (va_runV (As := [.int (nI 0), .int (nI 999)]) (rest := []) ⟨hx, hb, hml, hown, hts⟩ (t_parseNumber l hT hX hP (by decide)) (cwV 2 hts (lw_V q2664 q2666 qs71 q164 q2667) rfl rfl rfl (by decide +kernel) ⟨Nat.le_of_ble_eq_true rfl, Nat.le_of_ble_eq_true rfl⟩) (mm_pV hKK (mm_rc hKK hT.2.1 mm_le.rf rfl)) rfl rfl hl.1 rfl (lv_room (Nat.le_of_ble_eq_true rfl)) dX8_parseValue_48 ⟨Nat.le_of_ble_eq_true rfl, Nat.le_of_ble_eq_true rfl⟩) hS (mm_sS hS) (fun H_48 L_48 hB_48 hz_48 hq_48 hS => ?_)
          obtain ⟨I_48, hT, hx_48, hP⟩ := hB_48
          have hxi := hxi.tr (hx_48.mono (by decide))
          have hX : TX_ bt n I_48 F := ⟨(hx_48 13 (by decide)).trans hX.1, hX.2.1, hX.2.2⟩
          have hF := hF.keep hq_48 hMP
          have hP : PS bt n (.error (3, tkS bt n p9)) I_48 := hP
          have hce_24 := hP.1
          refine mm_top (y := nI 0) rfl ?_
          refine lv_istore_n (lv' := [(3, .int (nI 0)), (2, .int (mm_b true)), (0, .ref x), (1, .int (mm_b rm))]) hx hb dX8_parseValue_51 rfl hl (by decide) rfl (fun ls hl => ?_)
          refine lv_iload_n hx hb dX8_parseValue_52 rfl (lv_at hl 1 rfl) ?_
          refine mm_ifeqB (tgt := 61) hx hb dX8_parseValue_53 (by decide) (fun c_53 => ?_) (fun c_53 => ?_)
          · exact absurd c_53 (by decide)
          · refine lv_iload_n hx hb dX8_parseValue_56 rfl (lv_at hl 0 rfl) ?_
            refine lv_ineg hx hb dX8_parseValue_57 ?_
            refine lv_goto (tgt := 62) hx hb dX8_parseValue_58 (by decide) ?_
            exact mm_iret (v := -(nI 0)) hx hb hr hlk hS (Nat.le_of_ble_eq_true rfl) (Nat.le_of_ble_eq_true rfl) (⟨by rw [pV_2 hw_3 hb_32]; rfl, _, hT, hxi, by rw [pV_2 hw_3 hb_32]; exact hP⟩) dX8_parseValue_62
    · exact absurd c_9 (by decide)
  · refine mm_top (y := mm_b false) (congrArg mm_b hw_3) ?_
    refine lv_istore_n (lv' := [(2, .int (mm_b false)), (0, .ref x), (1, .int (mm_b rm))]) hx hb dX8_parseValue_6 rfl hl (by decide) rfl (fun ls hl => ?_)
    refine lv_aload_n hx hb dX8_parseValue_7 rfl (lv_at hl 1 rfl) ?_
    refine lv_iload_n hx hb dX8_parseValue_8 rfl (lv_at hl 0 rfl) ?_
    refine mm_ifneB (tgt := 20) hx hb dX8_parseValue_9 (by decide) (fun c_9 => ?_) (fun c_9 => ?_)
    · exact absurd c_9 (by decide)
    · refine lv_aload_n hx hb dX8_parseValue_12 rfl (lv_at hl 1 rfl) ?_
      refine tw_geti 18 (v := nI (tkK bt n p9)) hx hb hts hown hKK hT (by decide) rfl (hP.2.2.2.2.1) (hts _ q2516) dX8_parseValue_13 ?_
      refine lv_iconst (v := nI 2) hx hb dX8_parseValue_16 (by decide) ?_
      refine mm_icmp_ne (tgt := 24) (by omega) (by omega) hx hb dX8_parseValue_17 (by decide) (fun c_17 => ?_) (fun c_17 => ?_)
      · refine lv_iconst (v := nI 0) hx hb dX8_parseValue_24 (by decide) ?_
        refine mm_top (y := mm_b false) rfl ?_
        refine lv_iconst (v := nI 1) hx hb dX8_parseValue_25 (by decide) ?_
        refine mm_rv (va_runV (As := [.int (mm_b false), .int (nI 1)]) (rest := []) ⟨hx, hb, hml, hown, hts⟩ (t_expect l hT hX hP (by decide) (by decide)) (cwV 2 hts (lw_V q2655 q2657 qs69 q164 q2658) rfl rfl rfl (by decide +kernel) ⟨Nat.le_of_ble_eq_true rfl, Nat.le_of_ble_eq_true rfl⟩) (mm_pV hKK (mm_rc hKK hT.2.1 mm_le.rf rfl)) rfl rfl hl.1 rfl (lv_room (Nat.le_of_ble_eq_true rfl)) dX8_parseValue_26 ⟨Nat.le_of_ble_eq_true rfl, Nat.le_of_ble_eq_true rfl⟩) hS (mm_sS hS) (fun H_26 L_26 hB_26 hz_26 hq_26 hS => ?_)
        obtain ⟨I_26, hT, hx_26, hP⟩ := hB_26
        have hxi := hxi.tr (hx_26.mono (by decide))
        have hX : TX_ bt n I_26 F := ⟨(hx_26 13 (by decide)).trans hX.1, hX.2.1, hX.2.2⟩
        have hF := hF.keep hq_26 hMP
        have hP : PS bt n (.error (1, tkS bt n p9)) I_26 := hP
        have hce_25 := hP.1
        refine lv_aload_n hx hb dX8_parseValue_29 rfl (lv_at hl 1 rfl) ?_
        refine lv_iload_n hx hb dX8_parseValue_30 rfl (lv_at hl 2 rfl) ?_
        refine lv_iconst (v := nI 3) hx hb dX8_parseValue_31 (by decide) ?_
        refine mm_rv (va_runV (As := [.int (mm_b rm), .int (nI 3)]) (rest := []) ⟨hx, hb, hml, hown, hts⟩ (t_expect l hT hX hP (by decide) (by decide)) (cwV 2 hts (lw_V q2655 q2657 qs69 q164 q2658) rfl rfl rfl (by decide +kernel) ⟨Nat.le_of_ble_eq_true rfl, Nat.le_of_ble_eq_true rfl⟩) (mm_pV hKK (mm_rc hKK hT.2.1 mm_le.rf rfl)) rfl rfl hl.1 rfl (lv_room (Nat.le_of_ble_eq_true rfl)) dX8_parseValue_32 ⟨Nat.le_of_ble_eq_true rfl, Nat.le_of_ble_eq_true rfl⟩) hS (mm_sS hS) (fun H_32 L_32 hB_32 hz_32 hq_32 hS => ?_)
        obtain ⟨I_32, hT, hx_32, hP⟩ := hB_32
        have hxi := hxi.tr (hx_32.mono (by decide))
        have hX : TX_ bt n I_32 F := ⟨(hx_32 13 (by decide)).trans hX.1, hX.2.1, hX.2.2⟩
        have hF := hF.keep hq_32 hMP
        have hP : PS bt n (.error (1, tkS bt n p9)) I_32 := hP
        have hce_26 := hP.1
        refine lv_iload_n hx hb dX8_parseValue_35 rfl (lv_at hl 0 rfl) ?_
        refine mm_ifeqB (tgt := 43) hx hb dX8_parseValue_36 (by decide) (fun c_36 => ?_) (fun c_36 => ?_)
        · refine lv_aload_n hx hb dX8_parseValue_43 rfl (lv_at hl 1 rfl) ?_
          refine lv_iconst (v := nI 0) hx hb dX8_parseValue_44 (by decide) ?_
          refine lv_sipush (v := nI 999) hx hb dX8_parseValue_45 (by decide) ?_
          refine mm_ri (va_runV (As := [.int (nI 0), .int (nI 999)]) (rest := []) ⟨hx, hb, hml, hown, hts⟩ (t_parseNumber l hT hX hP (by decide)) (cwV 2 hts (lw_V q2664 q2666 qs71 q164 q2667) rfl rfl rfl (by decide +kernel) ⟨Nat.le_of_ble_eq_true rfl, Nat.le_of_ble_eq_true rfl⟩) (mm_pV hKK (mm_rc hKK hT.2.1 mm_le.rf rfl)) rfl rfl hl.1 rfl (lv_room (Nat.le_of_ble_eq_true rfl)) dX8_parseValue_48 ⟨Nat.le_of_ble_eq_true rfl, Nat.le_of_ble_eq_true rfl⟩) hS (mm_sS hS) (fun H_48 L_48 hB_48 hz_48 hq_48 hS => ?_)
          obtain ⟨I_48, hT, hx_48, hP⟩ := hB_48
          have hxi := hxi.tr (hx_48.mono (by decide))
          have hX : TX_ bt n I_48 F := ⟨(hx_48 13 (by decide)).trans hX.1, hX.2.1, hX.2.2⟩
          have hF := hF.keep hq_48 hMP
          have hP : PS bt n (.error (1, tkS bt n p9)) I_48 := hP
          have hce_27 := hP.1
          refine mm_top (y := nI 0) rfl ?_
          refine lv_istore_n (lv' := [(3, .int (nI 0)), (2, .int (mm_b false)), (0, .ref x), (1, .int (mm_b rm))]) hx hb dX8_parseValue_51 rfl hl (by decide) rfl (fun ls hl => ?_)
          refine lv_iload_n hx hb dX8_parseValue_52 rfl (lv_at hl 1 rfl) ?_
          refine mm_ifeqB (tgt := 61) hx hb dX8_parseValue_53 (by decide) (fun c_53 => ?_) (fun c_53 => ?_)
          · refine lv_iload_n hx hb dX8_parseValue_61 rfl (lv_at hl 0 rfl) ?_
            exact mm_iret (v := nI 0) hx hb hr hlk hS (Nat.le_of_ble_eq_true rfl) (Nat.le_of_ble_eq_true rfl) (⟨by rw [pV_1 hw_3 c_17]; rfl, _, hT, hxi, by rw [pV_1 hw_3 c_17]; exact hP⟩) dX8_parseValue_62
          · exact absurd c_53 (by decide)
        · exact absurd c_36 (by decide)
      · refine lv_iconst (v := nI 1) hx hb dX8_parseValue_20 (by decide) ?_
        refine mm_top (y := mm_b true) rfl ?_
        refine lv_goto (tgt := 25) hx hb dX8_parseValue_21 (by decide) ?_
        refine lv_iconst (v := nI 1) hx hb dX8_parseValue_25 (by decide) ?_
        refine mm_rv (va_runV (As := [.int (mm_b true), .int (nI 1)]) (rest := []) ⟨hx, hb, hml, hown, hts⟩ (t_expect l hT hX hP (by decide) (by decide)) (cwV 2 hts (lw_V q2655 q2657 qs69 q164 q2658) rfl rfl rfl (by decide +kernel) ⟨Nat.le_of_ble_eq_true rfl, Nat.le_of_ble_eq_true rfl⟩) (mm_pV hKK (mm_rc hKK hT.2.1 mm_le.rf rfl)) rfl rfl hl.1 rfl (lv_room (Nat.le_of_ble_eq_true rfl)) dX8_parseValue_26 ⟨Nat.le_of_ble_eq_true rfl, Nat.le_of_ble_eq_true rfl⟩) hS (mm_sS hS) (fun H_26 L_26 hB_26 hz_26 hq_26 hS => ?_)
        obtain ⟨I_26, hT, hx_26, hP⟩ := hB_26
        have hxi := hxi.tr (hx_26.mono (by decide))
        have hX : TX_ bt n I_26 F := ⟨(hx_26 13 (by decide)).trans hX.1, hX.2.1, hX.2.2⟩
        have hF := hF.keep hq_26 hMP
        have hP : PS bt n (.ok p9) I_26 := hP
        have hbd_p9 := tk_bd (b := bt) (show p9 ≤ n from hP.1)
        refine lv_aload_n hx hb dX8_parseValue_29 rfl (lv_at hl 1 rfl) ?_
        refine lv_iload_n hx hb dX8_parseValue_30 rfl (lv_at hl 2 rfl) ?_
        refine lv_iconst (v := nI 3) hx hb dX8_parseValue_31 (by decide) ?_
        refine mm_rv (va_runV (As := [.int (mm_b rm), .int (nI 3)]) (rest := []) ⟨hx, hb, hml, hown, hts⟩ (t_expect l hT hX hP (by decide) (by decide)) (cwV 2 hts (lw_V q2655 q2657 qs69 q164 q2658) rfl rfl rfl (by decide +kernel) ⟨Nat.le_of_ble_eq_true rfl, Nat.le_of_ble_eq_true rfl⟩) (mm_pV hKK (mm_rc hKK hT.2.1 mm_le.rf rfl)) rfl rfl hl.1 rfl (lv_room (Nat.le_of_ble_eq_true rfl)) dX8_parseValue_32 ⟨Nat.le_of_ble_eq_true rfl, Nat.le_of_ble_eq_true rfl⟩) hS (mm_sS hS) (fun H_32 L_32 hB_32 hz_32 hq_32 hS => ?_)
        obtain ⟨I_32, hT, hx_32, hP⟩ := hB_32
        have hxi := hxi.tr (hx_32.mono (by decide))
        have hX : TX_ bt n I_32 F := ⟨(hx_32 13 (by decide)).trans hX.1, hX.2.1, hX.2.2⟩
        have hF := hF.keep hq_32 hMP
        rcases Bool.eq_false_or_eq_true (rm) with hb_32 | hb_32
        · rw [hb_32] at hP
          have hP : PS bt n (.ok p9) I_32 := hP
          have hbd_p9 := tk_bd (b := bt) (show p9 ≤ n from hP.1)
          refine lv_iload_n hx hb dX8_parseValue_35 rfl (lv_at hl 0 rfl) ?_
          refine mm_ifeqB (tgt := 43) hx hb dX8_parseValue_36 (by decide) (fun c_36 => ?_) (fun c_36 => ?_)
          · refine lv_aload_n hx hb dX8_parseValue_43 rfl (lv_at hl 1 rfl) ?_
            refine lv_iconst (v := nI 0) hx hb dX8_parseValue_44 (by decide) ?_
            refine lv_sipush (v := nI 999) hx hb dX8_parseValue_45 (by decide) ?_
            refine mm_ri (va_runV (As := [.int (nI 0), .int (nI 999)]) (rest := []) ⟨hx, hb, hml, hown, hts⟩ (t_parseNumber l hT hX hP (by decide)) (cwV 2 hts (lw_V q2664 q2666 qs71 q164 q2667) rfl rfl rfl (by decide +kernel) ⟨Nat.le_of_ble_eq_true rfl, Nat.le_of_ble_eq_true rfl⟩) (mm_pV hKK (mm_rc hKK hT.2.1 mm_le.rf rfl)) rfl rfl hl.1 rfl (lv_room (Nat.le_of_ble_eq_true rfl)) dX8_parseValue_48 ⟨Nat.le_of_ble_eq_true rfl, Nat.le_of_ble_eq_true rfl⟩) hS (mm_sS hS) (fun H_48 L_48 hB_48 hz_48 hq_48 hS => ?_)
            obtain ⟨I_48, hT, hx_48, hP⟩ := hB_48
            have hxi := hxi.tr (hx_48.mono (by decide))
            have hX : TX_ bt n I_48 F := ⟨(hx_48 13 (by decide)).trans hX.1, hX.2.1, hX.2.2⟩
            have hF := hF.keep hq_48 hMP
            rcases hN_48 : pNum bt n p9 999 with ⟨c_48, o_48⟩ | ⟨v_48, q_48⟩
            · have hP : PS bt n (.error (c_48, o_48)) I_48 := by have hP : PS bt n (p_pos (pNum bt n p9 999)) I_48 := hP; rw [hN_48] at hP; exact hP
              have hce_28 := hP.1
              refine mm_top (y := nI 0) (by show nI (p_vN (pNum bt n p9 999)) = _; rw [hN_48]; rfl) ?_
              refine lv_istore_n (lv' := [(3, .int (nI 0)), (2, .int (mm_b false)), (0, .ref x), (1, .int (mm_b rm))]) hx hb dX8_parseValue_51 rfl hl (by decide) rfl (fun ls hl => ?_)
              refine lv_iload_n hx hb dX8_parseValue_52 rfl (lv_at hl 1 rfl) ?_
              refine mm_ifeqB (tgt := 61) hx hb dX8_parseValue_53 (by decide) (fun c_53 => ?_) (fun c_53 => ?_)
              · refine lv_iload_n hx hb dX8_parseValue_61 rfl (lv_at hl 0 rfl) ?_
                exact mm_iret (v := nI 0) hx hb hr hlk hS (Nat.le_of_ble_eq_true rfl) (Nat.le_of_ble_eq_true rfl) (⟨by rw [pV_7 hw_3 c_17 hb_32 hN_48]; rfl, _, hT, hxi, by rw [pV_7 hw_3 c_17 hb_32 hN_48]; exact hP⟩) dX8_parseValue_62
              · exact absurd c_53 (by decide)
            · have hP : PS bt n (.ok q_48) I_48 := by have hP : PS bt n (p_pos (pNum bt n p9 999)) I_48 := hP; rw [hN_48] at hP; exact hP
              have hbd_q_48 := tk_bd (b := bt) (show q_48 ≤ n from hP.1)
              have hle_48 := pNum_le hN_48
              refine mm_top (y := nI v_48) (by show nI (p_vN (pNum bt n p9 999)) = _; rw [hN_48]; rfl) ?_
              refine lv_istore_n (lv' := [(3, .int (nI v_48)), (2, .int (mm_b false)), (0, .ref x), (1, .int (mm_b rm))]) hx hb dX8_parseValue_51 rfl hl (by decide) rfl (fun ls hl => ?_)
              refine lv_iload_n hx hb dX8_parseValue_52 rfl (lv_at hl 1 rfl) ?_
              refine mm_ifeqB (tgt := 61) hx hb dX8_parseValue_53 (by decide) (fun c_53 => ?_) (fun c_53 => ?_)
              · refine lv_iload_n hx hb dX8_parseValue_61 rfl (lv_at hl 0 rfl) ?_
                exact mm_iret (v := nI v_48) hx hb hr hlk hS (Nat.le_of_ble_eq_true rfl) (Nat.le_of_ble_eq_true rfl) (⟨by rw [pV_6 hw_3 c_17 hb_32 hN_48]; rfl, _, hT, hxi, by rw [pV_6 hw_3 c_17 hb_32 hN_48]; exact hP⟩) dX8_parseValue_62
              · exact absurd c_53 (by decide)
          · exact absurd c_36 (by decide)
        · rw [hb_32] at hP
          have hP : PS bt n (.error (3, tkS bt n p9)) I_32 := hP
          have hce_29 := hP.1
          refine lv_iload_n hx hb dX8_parseValue_35 rfl (lv_at hl 0 rfl) ?_
          refine mm_ifeqB (tgt := 43) hx hb dX8_parseValue_36 (by decide) (fun c_36 => ?_) (fun c_36 => ?_)
          · refine lv_aload_n hx hb dX8_parseValue_43 rfl (lv_at hl 1 rfl) ?_
            refine lv_iconst (v := nI 0) hx hb dX8_parseValue_44 (by decide) ?_
            refine lv_sipush (v := nI 999) hx hb dX8_parseValue_45 (by decide) ?_
            refine mm_ri (va_runV (As := [.int (nI 0), .int (nI 999)]) (rest := []) ⟨hx, hb, hml, hown, hts⟩ (t_parseNumber l hT hX hP (by decide)) (cwV 2 hts (lw_V q2664 q2666 qs71 q164 q2667) rfl rfl rfl (by decide +kernel) ⟨Nat.le_of_ble_eq_true rfl, Nat.le_of_ble_eq_true rfl⟩) (mm_pV hKK (mm_rc hKK hT.2.1 mm_le.rf rfl)) rfl rfl hl.1 rfl (lv_room (Nat.le_of_ble_eq_true rfl)) dX8_parseValue_48 ⟨Nat.le_of_ble_eq_true rfl, Nat.le_of_ble_eq_true rfl⟩) hS (mm_sS hS) (fun H_48 L_48 hB_48 hz_48 hq_48 hS => ?_)
            obtain ⟨I_48, hT, hx_48, hP⟩ := hB_48
            have hxi := hxi.tr (hx_48.mono (by decide))
            have hX : TX_ bt n I_48 F := ⟨(hx_48 13 (by decide)).trans hX.1, hX.2.1, hX.2.2⟩
            have hF := hF.keep hq_48 hMP
            have hP : PS bt n (.error (3, tkS bt n p9)) I_48 := hP
            have hce_30 := hP.1
            refine mm_top (y := nI 0) rfl ?_
            refine lv_istore_n (lv' := [(3, .int (nI 0)), (2, .int (mm_b false)), (0, .ref x), (1, .int (mm_b rm))]) hx hb dX8_parseValue_51 rfl hl (by decide) rfl (fun ls hl => ?_)
            refine lv_iload_n hx hb dX8_parseValue_52 rfl (lv_at hl 1 rfl) ?_
            refine mm_ifeqB (tgt := 61) hx hb dX8_parseValue_53 (by decide) (fun c_53 => ?_) (fun c_53 => ?_)
            · refine lv_iload_n hx hb dX8_parseValue_61 rfl (lv_at hl 0 rfl) ?_
              exact mm_iret (v := nI 0) hx hb hr hlk hS (Nat.le_of_ble_eq_true rfl) (Nat.le_of_ble_eq_true rfl) (⟨by rw [pV_3 hw_3 c_17 hb_32]; rfl, _, hT, hxi, by rw [pV_3 hw_3 c_17 hb_32]; exact hP⟩) dX8_parseValue_62
            · exact absurd c_53 (by decide)
          · exact absurd c_36 (by decide)
set_option maxRecDepth 100000 in
theorem t_parseValueer (l : Launch) {G : mm_G} {P : mm_H} {H : Heap} {x : Nat} {ad : Nat → Nat} {I : Nat → Int32} {F : Nat → Nat → Int32} {bt : Nat → Int32} {n : Nat} {c9 o9 : Nat} {rm : Bool} (hT : TW G x ad I F H) (hX : TX_ bt n I F) (hP : PS bt n (.error (c9, o9)) I) (hF : mm_le P (mm_h H)) (hMP : ∀ q, tw_M x ad q → P q = none) : Mt l yX8_parseValue (ws_ yX8_parseValue cX8_parseValue 4 (some .int)) 10 300 0 0 G P [.ref x, .int (mm_b rm)] H (tw_M x ad) (mm_i (p_vI (p_val bt n rm (.error (c9, o9)))) (fun H2 => ∃ I2, TW G x ad I2 F H2 ∧ exI [16, 17, 18, 19, 20, 21] I I2 ∧ PS bt n (p_pos (p_val bt n rm (.error (c9, o9)))) I2)) := by
  refine Mt.of (by decide) (Nat.le_of_ble_eq_true rfl) (fun p e s m below meth c ls hx hb hr hlk hml hown hnm hts hKK hsH hl hS => ?_)
  have hl : lv_has ls 4 [(0, .ref x), (1, .int (mm_b rm))] := hl
  have hMx : mm_A (tw_M x ad) H x := Or.inl (Or.inl rfl)
  have hMa : ∀ j, tw_isA j = true → mm_A (tw_M x ad) H (ad j) := fun j hj => Or.inl (Or.inr ⟨j, hj, rfl⟩)
  have hxi : exI [16, 17, 18, 19, 20, 21] I I := exI.rf
  have hn6 := hX.2.1
  have hce_31 := hP.1
  refine lv_aload_n hx hb dX8_parseValue_0 rfl (lv_at hl 0 rfl) ?_
  refine mm_ldcS (own := "VectorVersionsModel") hx hb hown (hKK.str 8 (by decide) rfl) dX8_parseValue_1 ?_
  refine mm_rpu (v := .int (mm_b (false))) (va_runV (As := [.ref (G.2.2 (400 + 8))]) (rest := []) ⟨hx, hb, hml, hown, hts⟩ (t_isWord l hT hF (mm_bs.K (i := 8) (w := w_minus) (by decide) rfl) hX hP) (cwV 1 hts (lw_V q2639 q2641 qs68 q164 q2642) rfl rfl rfl (by decide +kernel) ⟨Nat.le_of_ble_eq_true rfl, Nat.le_of_ble_eq_true rfl⟩) (mm_pV hKK (mm_rc hKK hT.2.1 mm_le.rf rfl)) rfl rfl hl.1 rfl (lv_room (Nat.le_of_ble_eq_true rfl)) dX8_parseValue_3 ⟨Nat.le_of_ble_eq_true rfl, Nat.le_of_ble_eq_true rfl⟩) hS (mm_s0 hS) (fun L_3 hS => ?_)
  refine lv_istore_n (lv' := [(2, .int (mm_b false)), (0, .ref x), (1, .int (mm_b rm))]) hx hb dX8_parseValue_6 rfl hl (by decide) rfl (fun ls hl => ?_)
  refine lv_aload_n hx hb dX8_parseValue_7 rfl (lv_at hl 1 rfl) ?_
  refine lv_iload_n hx hb dX8_parseValue_8 rfl (lv_at hl 0 rfl) ?_
  refine mm_ifneB (tgt := 20) hx hb dX8_parseValue_9 (by decide) (fun c_9 => ?_) (fun c_9 => ?_)
  · exact absurd c_9 (by decide)
  · refine lv_aload_n hx hb dX8_parseValue_12 rfl (lv_at hl 1 rfl) ?_
    refine tw_geti 18 (v := I 18) hx hb hts hown hKK hT (by decide) rfl (rfl) (hts _ q2516) dX8_parseValue_13 ?_
    refine lv_iconst (v := nI 2) hx hb dX8_parseValue_16 (by decide) ?_
    refine lv_icmp_ne (tgt := 24) hx hb dX8_parseValue_17 (by decide) (fun c_17 => ?_) (fun c_17 => ?_)
    · refine lv_iconst (v := nI 0) hx hb dX8_parseValue_24 (by decide) ?_
      refine mm_top (y := mm_b false) rfl ?_
      refine lv_iconst (v := nI 1) hx hb dX8_parseValue_25 (by decide) ?_
      refine mm_rv (va_runV (As := [.int (mm_b false), .int (nI 1)]) (rest := []) ⟨hx, hb, hml, hown, hts⟩ (t_expect l hT hX hP (by decide) (by decide)) (cwV 2 hts (lw_V q2655 q2657 qs69 q164 q2658) rfl rfl rfl (by decide +kernel) ⟨Nat.le_of_ble_eq_true rfl, Nat.le_of_ble_eq_true rfl⟩) (mm_pV hKK (mm_rc hKK hT.2.1 mm_le.rf rfl)) rfl rfl hl.1 rfl (lv_room (Nat.le_of_ble_eq_true rfl)) dX8_parseValue_26 ⟨Nat.le_of_ble_eq_true rfl, Nat.le_of_ble_eq_true rfl⟩) hS (mm_sS hS) (fun H_26 L_26 hB_26 hz_26 hq_26 hS => ?_)
      obtain ⟨I_26, hT, hx_26, hP⟩ := hB_26
      have hxi := hxi.tr (hx_26.mono (by decide))
      have hX : TX_ bt n I_26 F := ⟨(hx_26 13 (by decide)).trans hX.1, hX.2.1, hX.2.2⟩
      have hF := hF.keep hq_26 hMP
      have hP : PS bt n (.error (c9, o9)) I_26 := hP
      have hce_32 := hP.1
      refine lv_aload_n hx hb dX8_parseValue_29 rfl (lv_at hl 1 rfl) ?_
      refine lv_iload_n hx hb dX8_parseValue_30 rfl (lv_at hl 2 rfl) ?_
      refine lv_iconst (v := nI 3) hx hb dX8_parseValue_31 (by decide) ?_
      refine mm_rv (va_runV (As := [.int (mm_b rm), .int (nI 3)]) (rest := []) ⟨hx, hb, hml, hown, hts⟩ (t_expect l hT hX hP (by decide) (by decide)) (cwV 2 hts (lw_V q2655 q2657 qs69 q164 q2658) rfl rfl rfl (by decide +kernel) ⟨Nat.le_of_ble_eq_true rfl, Nat.le_of_ble_eq_true rfl⟩) (mm_pV hKK (mm_rc hKK hT.2.1 mm_le.rf rfl)) rfl rfl hl.1 rfl (lv_room (Nat.le_of_ble_eq_true rfl)) dX8_parseValue_32 ⟨Nat.le_of_ble_eq_true rfl, Nat.le_of_ble_eq_true rfl⟩) hS (mm_sS hS) (fun H_32 L_32 hB_32 hz_32 hq_32 hS => ?_)
      obtain ⟨I_32, hT, hx_32, hP⟩ := hB_32
      have hxi := hxi.tr (hx_32.mono (by decide))
      have hX : TX_ bt n I_32 F := ⟨(hx_32 13 (by decide)).trans hX.1, hX.2.1, hX.2.2⟩
      have hF := hF.keep hq_32 hMP
      have hP : PS bt n (.error (c9, o9)) I_32 := hP
      have hce_33 := hP.1
      refine lv_iload_n hx hb dX8_parseValue_35 rfl (lv_at hl 0 rfl) ?_
      refine mm_ifeqB (tgt := 43) hx hb dX8_parseValue_36 (by decide) (fun c_36 => ?_) (fun c_36 => ?_)
      · refine lv_aload_n hx hb dX8_parseValue_43 rfl (lv_at hl 1 rfl) ?_
        refine lv_iconst (v := nI 0) hx hb dX8_parseValue_44 (by decide) ?_
        refine lv_sipush (v := nI 999) hx hb dX8_parseValue_45 (by decide) ?_
        refine mm_ri (va_runV (As := [.int (nI 0), .int (nI 999)]) (rest := []) ⟨hx, hb, hml, hown, hts⟩ (t_parseNumber l hT hX hP (by decide)) (cwV 2 hts (lw_V q2664 q2666 qs71 q164 q2667) rfl rfl rfl (by decide +kernel) ⟨Nat.le_of_ble_eq_true rfl, Nat.le_of_ble_eq_true rfl⟩) (mm_pV hKK (mm_rc hKK hT.2.1 mm_le.rf rfl)) rfl rfl hl.1 rfl (lv_room (Nat.le_of_ble_eq_true rfl)) dX8_parseValue_48 ⟨Nat.le_of_ble_eq_true rfl, Nat.le_of_ble_eq_true rfl⟩) hS (mm_sS hS) (fun H_48 L_48 hB_48 hz_48 hq_48 hS => ?_)
        obtain ⟨I_48, hT, hx_48, hP⟩ := hB_48
        have hxi := hxi.tr (hx_48.mono (by decide))
        have hX : TX_ bt n I_48 F := ⟨(hx_48 13 (by decide)).trans hX.1, hX.2.1, hX.2.2⟩
        have hF := hF.keep hq_48 hMP
        have hP : PS bt n (.error (c9, o9)) I_48 := hP
        have hce_34 := hP.1
        refine mm_top (y := nI 0) rfl ?_
        refine lv_istore_n (lv' := [(3, .int (nI 0)), (2, .int (mm_b false)), (0, .ref x), (1, .int (mm_b rm))]) hx hb dX8_parseValue_51 rfl hl (by decide) rfl (fun ls hl => ?_)
        refine lv_iload_n hx hb dX8_parseValue_52 rfl (lv_at hl 1 rfl) ?_
        refine mm_ifeqB (tgt := 61) hx hb dX8_parseValue_53 (by decide) (fun c_53 => ?_) (fun c_53 => ?_)
        · refine lv_iload_n hx hb dX8_parseValue_61 rfl (lv_at hl 0 rfl) ?_
          exact mm_iret (v := nI 0) hx hb hr hlk hS (Nat.le_of_ble_eq_true rfl) (Nat.le_of_ble_eq_true rfl) (⟨rfl, _, hT, hxi, hP⟩) dX8_parseValue_62
        · exact absurd c_53 (by decide)
      · exact absurd c_36 (by decide)
    · refine lv_iconst (v := nI 1) hx hb dX8_parseValue_20 (by decide) ?_
      refine mm_top (y := mm_b true) rfl ?_
      refine lv_goto (tgt := 25) hx hb dX8_parseValue_21 (by decide) ?_
      refine lv_iconst (v := nI 1) hx hb dX8_parseValue_25 (by decide) ?_
      refine mm_rv (va_runV (As := [.int (mm_b true), .int (nI 1)]) (rest := []) ⟨hx, hb, hml, hown, hts⟩ (t_expect l hT hX hP (by decide) (by decide)) (cwV 2 hts (lw_V q2655 q2657 qs69 q164 q2658) rfl rfl rfl (by decide +kernel) ⟨Nat.le_of_ble_eq_true rfl, Nat.le_of_ble_eq_true rfl⟩) (mm_pV hKK (mm_rc hKK hT.2.1 mm_le.rf rfl)) rfl rfl hl.1 rfl (lv_room (Nat.le_of_ble_eq_true rfl)) dX8_parseValue_26 ⟨Nat.le_of_ble_eq_true rfl, Nat.le_of_ble_eq_true rfl⟩) hS (mm_sS hS) (fun H_26 L_26 hB_26 hz_26 hq_26 hS => ?_)
      obtain ⟨I_26, hT, hx_26, hP⟩ := hB_26
      have hxi := hxi.tr (hx_26.mono (by decide))
      have hX : TX_ bt n I_26 F := ⟨(hx_26 13 (by decide)).trans hX.1, hX.2.1, hX.2.2⟩
      have hF := hF.keep hq_26 hMP
      have hP : PS bt n (.error (c9, o9)) I_26 := hP
      have hce_35 := hP.1
      refine lv_aload_n hx hb dX8_parseValue_29 rfl (lv_at hl 1 rfl) ?_
      refine lv_iload_n hx hb dX8_parseValue_30 rfl (lv_at hl 2 rfl) ?_
      refine lv_iconst (v := nI 3) hx hb dX8_parseValue_31 (by decide) ?_
      refine mm_rv (va_runV (As := [.int (mm_b rm), .int (nI 3)]) (rest := []) ⟨hx, hb, hml, hown, hts⟩ (t_expect l hT hX hP (by decide) (by decide)) (cwV 2 hts (lw_V q2655 q2657 qs69 q164 q2658) rfl rfl rfl (by decide +kernel) ⟨Nat.le_of_ble_eq_true rfl, Nat.le_of_ble_eq_true rfl⟩) (mm_pV hKK (mm_rc hKK hT.2.1 mm_le.rf rfl)) rfl rfl hl.1 rfl (lv_room (Nat.le_of_ble_eq_true rfl)) dX8_parseValue_32 ⟨Nat.le_of_ble_eq_true rfl, Nat.le_of_ble_eq_true rfl⟩) hS (mm_sS hS) (fun H_32 L_32 hB_32 hz_32 hq_32 hS => ?_)
      obtain ⟨I_32, hT, hx_32, hP⟩ := hB_32
      have hxi := hxi.tr (hx_32.mono (by decide))
      have hX : TX_ bt n I_32 F := ⟨(hx_32 13 (by decide)).trans hX.1, hX.2.1, hX.2.2⟩
      have hF := hF.keep hq_32 hMP
      have hP : PS bt n (.error (c9, o9)) I_32 := hP
      have hce_36 := hP.1
      refine lv_iload_n hx hb dX8_parseValue_35 rfl (lv_at hl 0 rfl) ?_
      refine mm_ifeqB (tgt := 43) hx hb dX8_parseValue_36 (by decide) (fun c_36 => ?_) (fun c_36 => ?_)
      · refine lv_aload_n hx hb dX8_parseValue_43 rfl (lv_at hl 1 rfl) ?_
        refine lv_iconst (v := nI 0) hx hb dX8_parseValue_44 (by decide) ?_
        refine lv_sipush (v := nI 999) hx hb dX8_parseValue_45 (by decide) ?_
        refine mm_ri (va_runV (As := [.int (nI 0), .int (nI 999)]) (rest := []) ⟨hx, hb, hml, hown, hts⟩ (t_parseNumber l hT hX hP (by decide)) (cwV 2 hts (lw_V q2664 q2666 qs71 q164 q2667) rfl rfl rfl (by decide +kernel) ⟨Nat.le_of_ble_eq_true rfl, Nat.le_of_ble_eq_true rfl⟩) (mm_pV hKK (mm_rc hKK hT.2.1 mm_le.rf rfl)) rfl rfl hl.1 rfl (lv_room (Nat.le_of_ble_eq_true rfl)) dX8_parseValue_48 ⟨Nat.le_of_ble_eq_true rfl, Nat.le_of_ble_eq_true rfl⟩) hS (mm_sS hS) (fun H_48 L_48 hB_48 hz_48 hq_48 hS => ?_)
        obtain ⟨I_48, hT, hx_48, hP⟩ := hB_48
        have hxi := hxi.tr (hx_48.mono (by decide))
        have hX : TX_ bt n I_48 F := ⟨(hx_48 13 (by decide)).trans hX.1, hX.2.1, hX.2.2⟩
        have hF := hF.keep hq_48 hMP
        have hP : PS bt n (.error (c9, o9)) I_48 := hP
        have hce_37 := hP.1
        refine mm_top (y := nI 0) rfl ?_
        refine lv_istore_n (lv' := [(3, .int (nI 0)), (2, .int (mm_b false)), (0, .ref x), (1, .int (mm_b rm))]) hx hb dX8_parseValue_51 rfl hl (by decide) rfl (fun ls hl => ?_)
        refine lv_iload_n hx hb dX8_parseValue_52 rfl (lv_at hl 1 rfl) ?_
        refine mm_ifeqB (tgt := 61) hx hb dX8_parseValue_53 (by decide) (fun c_53 => ?_) (fun c_53 => ?_)
        · refine lv_iload_n hx hb dX8_parseValue_61 rfl (lv_at hl 0 rfl) ?_
          exact mm_iret (v := nI 0) hx hb hr hlk hS (Nat.le_of_ble_eq_true rfl) (Nat.le_of_ble_eq_true rfl) (⟨rfl, _, hT, hxi, hP⟩) dX8_parseValue_62
        · exact absurd c_53 (by decide)
      · exact absurd c_36 (by decide)
theorem t_parseValue (l : Launch) {G : mm_G} {P : mm_H} {H : Heap} {x : Nat} {ad : Nat → Nat} {I : Nat → Int32} {F : Nat → Nat → Int32} {bt : Nat → Int32} {n : Nat} {r : pR Nat} {rm : Bool} (hT : TW G x ad I F H) (hX : TX_ bt n I F) (hP : PS bt n (r) I) (hF : mm_le P (mm_h H)) (hMP : ∀ q, tw_M x ad q → P q = none) : Mt l yX8_parseValue (ws_ yX8_parseValue cX8_parseValue 4 (some .int)) 10 300 0 0 G P [.ref x, .int (mm_b rm)] H (tw_M x ad) (mm_i (p_vI (p_val bt n rm r)) (fun H2 => ∃ I2, TW G x ad I2 F H2 ∧ exI [16, 17, 18, 19, 20, 21] I I2 ∧ PS bt n (p_pos (p_val bt n rm r)) I2)) := by
  cases r with
  | ok p => exact t_parseValueok l hT hX hP hF hMP
  | error e => exact t_parseValueer l hT hX hP hF hMP
/-- what a list leaves: the place, the values taken -/
def PLr (b : Nat → Int32) (n : Nat) (r : pR (Nat × Nat × (Nat → Int32))) (I : Nat → Int32) (F : Nat → Nat → Int32) : Prop := match r with
  | .ok (q, c2, g2) => PS b n (.ok q) I ∧ I 9 = nI c2 ∧ c2 ≤ 64 ∧ ∀ i, i < c2 → F 8 i = g2 i
  | .error e => PS b n (.error e) I
set_option maxRecDepth 100000 in
theorem t_parseList (l : Launch) {G : mm_G} {P : mm_H} {H : Heap} {x : Nat} {ad : Nat → Nat} {I : Nat → Int32} {F : Nat → Nat → Int32} {bt : Nat → Int32} {n : Nat} {p9 : Nat} {k9 : Nat} {g9 : Nat → Int32} (hT : TW G x ad I F H) (hX : TX_ bt n I F) (hP : PS bt n (.ok p9) I) (hF : mm_le P (mm_h H)) (hMP : ∀ q, tw_M x ad q → P q = none) (hk9 : I 9 = nI k9) (hk64 : k9 ≤ 64) (hg9 : ∀ i, i < k9 → F 8 i = g9 i) : Mt l yX8_parseList (ws_ yX8_parseList cX8_parseList 2 none) 12 360 0 0 G P [.ref x] H (tw_M x ad) (mm_v (fun H2 => ∃ I2 F2, TW G x ad I2 F2 H2 ∧ exI [9, 16, 17, 18, 19, 20, 21] I I2 ∧ eqx [8] F F2 ∧ PLr bt n (pLi bt n p9 k9 g9) I2 F2)) := by
  refine Mt.of (by decide) (Nat.le_of_ble_eq_true rfl) (fun p e s m below meth c ls hx hb hr hlk hml hown hnm hts hKK hsH hl hS => ?_)
  have hl : lv_has ls 2 [(0, .ref x)] := hl
  have hMx : mm_A (tw_M x ad) H x := Or.inl (Or.inl rfl)
  have hMa : ∀ j, tw_isA j = true → mm_A (tw_M x ad) H (ad j) := fun j hj => Or.inl (Or.inr ⟨j, hj, rfl⟩)
  have hxi : exI [9, 16, 17, 18, 19, 20, 21] I I := exI.rf
  have hn6 := hX.2.1
  have hbd_p9 := tk_bd (b := bt) (show p9 ≤ n from hP.1)
  refine lv_aload_n hx hb dX8_parseList_0 rfl (lv_at hl 0 rfl) ?_
  refine lv_aload_n hx hb dX8_parseList_1 rfl (lv_at hl 0 rfl) ?_
  refine mm_ldcS (own := "VectorVersionsModel") hx hb hown (hKK.str 9 (by decide) rfl) dX8_parseList_2 ?_
  refine mm_rpu (v := .int (mm_b (isW bt n p9 w_list))) (va_runV (As := [.ref (G.2.2 (400 + 9))]) (rest := [.ref x]) ⟨hx, hb, hml, hown, hts⟩ (t_isWord l hT hF (mm_bs.K (i := 9) (w := w_list) (by decide) rfl) hX hP) (cwV 1 hts (lw_V q2639 q2641 qs68 q164 q2642) rfl rfl rfl (by decide +kernel) ⟨Nat.le_of_ble_eq_true rfl, Nat.le_of_ble_eq_true rfl⟩) (mm_pV hKK (mm_rc hKK hT.2.1 mm_le.rf rfl)) rfl rfl hl.1 rfl (lv_room (Nat.le_of_ble_eq_true rfl)) dX8_parseList_4 ⟨Nat.le_of_ble_eq_true rfl, Nat.le_of_ble_eq_true rfl⟩) hS (mm_s0 hS) (fun L_4 hS => ?_)
  rcases Bool.eq_false_or_eq_true (isW bt n p9 w_list) with hw_4 | hw_4
  · refine mm_top (y := mm_b true) (congrArg mm_b hw_4) ?_
    refine lv_iconst (v := nI 1) hx hb dX8_parseList_7 (by decide) ?_
    refine mm_rv (va_runV (As := [.int (mm_b true), .int (nI 1)]) (rest := []) ⟨hx, hb, hml, hown, hts⟩ (t_expect l hT hX hP (by decide) (by decide)) (cwV 2 hts (lw_V q2655 q2657 qs69 q164 q2658) rfl rfl rfl (by decide +kernel) ⟨Nat.le_of_ble_eq_true rfl, Nat.le_of_ble_eq_true rfl⟩) (mm_pV hKK (mm_rc hKK hT.2.1 mm_le.rf rfl)) rfl rfl hl.1 rfl (lv_room (Nat.le_of_ble_eq_true rfl)) dX8_parseList_8 ⟨Nat.le_of_ble_eq_true rfl, Nat.le_of_ble_eq_true rfl⟩) hS (mm_sS hS) (fun H_8 L_8 hB_8 hz_8 hq_8 hS => ?_)
    obtain ⟨I_8, hT, hx_8, hP⟩ := hB_8
    have hxi := hxi.tr (hx_8.mono (by decide))
    have hX : TX_ bt n I_8 F := ⟨(hx_8 13 (by decide)).trans hX.1, hX.2.1, hX.2.2⟩
    have hF := hF.keep hq_8 hMP
    have hk9 := (hx_8 9 (by decide)).trans hk9
    have hP : PS bt n (.ok p9) I_8 := hP
    have hbd_p9 := tk_bd (b := bt) (show p9 ≤ n from hP.1)
    refine lv_aload_n hx hb dX8_parseList_11 rfl (lv_at hl 0 rfl) ?_
    refine mm_rv (va_runV (As := []) (rest := []) ⟨hx, hb, hml, hown, hts⟩ (t_advance l hT hX hP) (cwV 0 hts (lw_V q2618 q2620 qs64 q164 q2621) rfl rfl rfl (by decide +kernel) ⟨Nat.le_of_ble_eq_true rfl, Nat.le_of_ble_eq_true rfl⟩) (mm_pV hKK (mm_rc hKK hT.2.1 mm_le.rf rfl)) rfl rfl hl.1 rfl (lv_room (Nat.le_of_ble_eq_true rfl)) dX8_parseList_12 ⟨Nat.le_of_ble_eq_true rfl, Nat.le_of_ble_eq_true rfl⟩) hS (mm_sS hS) (fun H_12 L_12 hB_12 hz_12 hq_12 hS => ?_)
    obtain ⟨I_12, hT, hx_12, hP⟩ := hB_12
    have hxi := hxi.tr (hx_12.mono (by decide))
    have hX : TX_ bt n I_12 F := ⟨(hx_12 13 (by decide)).trans hX.1, hX.2.1, hX.2.2⟩
    have hF := hF.keep hq_12 hMP
    have hk9 := (hx_12 9 (by decide)).trans hk9
    have hP : PS bt n (.ok (tkE bt n p9)) I_12 := hP
    have hbd_tkE_bt_n_p9 := tk_bd (b := bt) (show tkE bt n p9 ≤ n from hP.1)
    have lp_15 : ∀ (fu : Nat) (p1 : Nat) (c1 : Nat) (g1 : Nat → Int32) (f1 : Nat) (H1 : Heap) (I1 : Nat → Int32) (F1 : Nat → Nat → Int32) (L : List Loc) (ls : Array Slot), f1 < fu → (c1 ≤ 64) → (pL bt n f1 p1 c1 g1 = pLi bt n p9 k9 g9) → (n < p1 + f1) → (p1 ≤ n) → lv_has ls 2 [(0, .ref x)] → (TW G x ad I1 F1 H1) → (TX_ bt n I1 F1) → (PS bt n (.ok p1) I1) → (exI [9, 16, 17, 18, 19, 20, 21] I I1) → (mm_le P (mm_h H1)) → (I1 9 = nI c1) → (eqx [8] F F1) → (∀ i, i < c1 → F1 8 i = g1 i) → va_S (mm_A (tw_M x ad) H) H H1 L → W p l e (mm_rm 12 360 0 0) s m ([.ref x] : List Value).toArray below meth c H1 L 0 0 (MQ below (mm_Qc H (tw_M x ad) (mm_v (fun H2 => ∃ I2 F2, TW G x ad I2 F2 H2 ∧ exI [9, 16, 17, 18, 19, 20, 21] I I2 ∧ eqx [8] F F2 ∧ PLr bt n (pLi bt n p9 k9 g9) I2 F2))) ([.ref x] : List Value).toArray s 0 0 (mm_A (tw_M x ad) H)) (F0 m 15 ls []) := by
      intro fu; induction fu with
      | zero => intro p1 c1 g1 f1 H1 I1 F1 L ls hfu; exact absurd hfu (Nat.not_lt_zero _)
      | succ fu ih =>
        intro p1 c1 g1 f1 H1 I1 F1 L ls hfu hc1 hL1 hf1 hpn hl hT hX hP hxi hF hk9 he hg hS
        have ih_15 := ih
        have hbd_p1 := tk_bd (b := bt) (show p1 ≤ n from hP.1)
        refine lv_aload_n hx hb dX8_parseList_15 rfl (lv_at hl 0 rfl) ?_
        refine tw_geti 20 (v := nI 0) hx hb hts hown hKK hT (by decide) rfl (hP.2.1) (hts _ q2518) dX8_parseList_16 ?_
        refine mm_if_ne (tgt := 79) (by omega) hx hb dX8_parseList_19 (by decide) (fun c_19 => ?_) (fun c_19 => ?_)
        · exact absurd c_19 (by decide)
        · refine lv_aload_n hx hb dX8_parseList_22 rfl (lv_at hl 0 rfl) ?_
          refine tw_geti 18 (v := nI (tkK bt n p1)) hx hb hts hown hKK hT (by decide) rfl (hP.2.2.2.2.1) (hts _ q2516) dX8_parseList_23 ?_
          refine lv_iconst (v := nI 3) hx hb dX8_parseList_26 (by decide) ?_
          refine mm_icmp_eq (tgt := 79) (by omega) (by omega) hx hb dX8_parseList_27 (by decide) (fun c_27 => ?_) (fun c_27 => ?_)
          · refine lv_aload_n hx hb dX8_parseList_79 rfl (lv_at hl 0 rfl) ?_
            refine mm_rv (va_runV (As := []) (rest := []) ⟨hx, hb, hml, hown, hts⟩ (t_parseSemicolon l hT hX hP) (cwV 0 hts (lw_V q2668 q2670 qs72 q164 q2671) rfl rfl rfl (by decide +kernel) ⟨Nat.le_of_ble_eq_true rfl, Nat.le_of_ble_eq_true rfl⟩) (mm_pV hKK (mm_rc hKK hT.2.1 mm_le.rf rfl)) rfl rfl hl.1 rfl (lv_room (Nat.le_of_ble_eq_true rfl)) dX8_parseList_80 ⟨Nat.le_of_ble_eq_true rfl, Nat.le_of_ble_eq_true rfl⟩) hS (mm_sS hS) (fun H_80 L_80 hB_80 hz_80 hq_80 hS => ?_)
            obtain ⟨I_80, hT, hx_80, hP⟩ := hB_80
            have hxi := hxi.tr (hx_80.mono (by decide))
            have hX : TX_ bt n I_80 F1 := ⟨(hx_80 13 (by decide)).trans hX.1, hX.2.1, hX.2.2⟩
            have hF := hF.keep hq_80 hMP
            have hk9 := (hx_80 9 (by decide)).trans hk9
            have hP : PS bt n (.ok (tkE bt n p1)) I_80 := by rw [pSem_1 c_27] at hP; exact hP
            have hbd_tkE_bt_n_p1 := tk_bd (b := bt) (show tkE bt n p1 ≤ n from hP.1)
            exact mm_vret hx hb hr hlk hS (Nat.le_of_ble_eq_true rfl) (Nat.le_of_ble_eq_true rfl) (⟨rfl, _, F1, hT, hxi, he, by rw [← hL1, pL_3 (by omega) c_27]; exact ⟨hP, hk9, hc1, hg⟩⟩) dX8_parseList_83
          · refine lv_aload_n hx hb dX8_parseList_30 rfl (lv_at hl 0 rfl) ?_
            refine lv_aload_n hx hb dX8_parseList_31 rfl (lv_at hl 0 rfl) ?_
            refine tw_geti 9 (v := nI c1) hx hb hts hown hKK hT (by decide) rfl (hk9) (hts _ q2507) dX8_parseList_32 ?_
            refine lv_bipush (v := nI 64) hx hb dX8_parseList_35 (by decide) ?_
            refine mm_icmp_ge (tgt := 44) (by omega) (by omega) hx hb dX8_parseList_37 (by decide) (fun c_37 => ?_) (fun c_37 => ?_)
            · refine lv_iconst (v := nI 0) hx hb dX8_parseList_44 (by decide) ?_
              refine mm_top (y := mm_b false) rfl ?_
              refine mm_top (y := mm_b (decide (c1 < 64))) (by rw [decide_eq_false (show ¬ c1 < 64 by omega)]) ?_
              refine mm_ri (va_runV (As := [.int (mm_b (decide (c1 < 64)))]) (rest := []) ⟨hx, hb, hml, hown, hts⟩ (t_parseValue l hT hX hP hF hMP) (cwV 1 hts (lw_V q2659 q2661 qs70 q164 q2662) rfl rfl rfl (by decide +kernel) ⟨Nat.le_of_ble_eq_true rfl, Nat.le_of_ble_eq_true rfl⟩) (mm_pV hKK (mm_rc hKK hT.2.1 mm_le.rf rfl)) rfl rfl hl.1 rfl (lv_room (Nat.le_of_ble_eq_true rfl)) dX8_parseList_45 ⟨Nat.le_of_ble_eq_true rfl, Nat.le_of_ble_eq_true rfl⟩) hS (mm_sS hS) (fun H_45 L_45 hB_45 hz_45 hq_45 hS => ?_)
              obtain ⟨I_45, hT, hx_45, hP⟩ := hB_45
              have hxi := hxi.tr (hx_45.mono (by decide))
              have hX : TX_ bt n I_45 F1 := ⟨(hx_45 13 (by decide)).trans hX.1, hX.2.1, hX.2.2⟩
              have hF := hF.keep hq_45 hMP
              have hk9 := (hx_45 9 (by decide)).trans hk9
              rcases hN_45 : pVal bt n (decide (c1 < 64)) p1 with ⟨c_45, o_45⟩ | ⟨v_45, q_45⟩
              · have hP : PS bt n (.error (c_45, o_45)) I_45 := by have hP : PS bt n (p_pos (pVal bt n (decide (c1 < 64)) p1)) I_45 := hP; rw [hN_45] at hP; exact hP
                have hce_38 := hP.1
                refine mm_top (y := 0) (by show p_vI (pVal bt n (decide (c1 < 64)) p1) = _; rw [hN_45]; rfl) ?_
                refine lv_istore_n (lv' := [(1, .int 0), (0, .ref x)]) hx hb dX8_parseList_48 rfl hl (by decide) rfl (fun ls hl => ?_)
                refine lv_aload_n hx hb dX8_parseList_49 rfl (lv_at hl 1 rfl) ?_
                refine tw_geti 20 (v := nI c_45) hx hb hts hown hKK hT (by decide) rfl (hP.2.1) (hts _ q2518) dX8_parseList_50 ?_
                refine mm_if_ne (tgt := 76) (by omega) hx hb dX8_parseList_53 (by decide) (fun c_53 => ?_) (fun c_53 => ?_)
                · refine lv_goto (tgt := 15) hx hb dX8_parseList_76 (by decide) ?_
                  refine lv_aload_n hx hb dX8_parseList_15 rfl (lv_at hl 1 rfl) ?_
                  refine tw_geti 20 (v := nI c_45) hx hb hts hown hKK hT (by decide) rfl (hP.2.1) (hts _ q2518) dX8_parseList_16 ?_
                  refine mm_if_ne (tgt := 79) (by omega) hx hb dX8_parseList_19 (by decide) (fun c_19 => ?_) (fun c_19 => ?_)
                  · refine lv_aload_n hx hb dX8_parseList_79 rfl (lv_at hl 1 rfl) ?_
                    refine mm_rv (va_runV (As := []) (rest := []) ⟨hx, hb, hml, hown, hts⟩ (t_parseSemicolon l hT hX hP) (cwV 0 hts (lw_V q2668 q2670 qs72 q164 q2671) rfl rfl rfl (by decide +kernel) ⟨Nat.le_of_ble_eq_true rfl, Nat.le_of_ble_eq_true rfl⟩) (mm_pV hKK (mm_rc hKK hT.2.1 mm_le.rf rfl)) rfl rfl hl.1 rfl (lv_room (Nat.le_of_ble_eq_true rfl)) dX8_parseList_80 ⟨Nat.le_of_ble_eq_true rfl, Nat.le_of_ble_eq_true rfl⟩) hS (mm_sS hS) (fun H_80 L_80 hB_80 hz_80 hq_80 hS => ?_)
                    obtain ⟨I_80, hT, hx_80, hP⟩ := hB_80
                    have hxi := hxi.tr (hx_80.mono (by decide))
                    have hX : TX_ bt n I_80 F1 := ⟨(hx_80 13 (by decide)).trans hX.1, hX.2.1, hX.2.2⟩
                    have hF := hF.keep hq_80 hMP
                    have hk9 := (hx_80 9 (by decide)).trans hk9
                    have hP : PS bt n (.error (c_45, o_45)) I_80 := hP
                    have hce_39 := hP.1
                    exact mm_vret hx hb hr hlk hS (Nat.le_of_ble_eq_true rfl) (Nat.le_of_ble_eq_true rfl) (⟨rfl, _, F1, hT, hxi, he, by rw [← hL1, pL_e (by omega) c_27 hN_45]; exact hP⟩) dX8_parseList_83
                  · exact absurd c_19 (by omega)
                · exact absurd c_53 (by omega)
              · have hP : PS bt n (.ok q_45) I_45 := by have hP : PS bt n (p_pos (pVal bt n (decide (c1 < 64)) p1)) I_45 := hP; rw [hN_45] at hP; exact hP
                have hbd_q_45 := tk_bd (b := bt) (show q_45 ≤ n from hP.1)
                refine mm_top (y := v_45) (by show p_vI (pVal bt n (decide (c1 < 64)) p1) = _; rw [hN_45]; rfl) ?_
                have hlt9 := of_decide_eq_true (pVal_rm hN_45)
                refine lv_istore_n (lv' := [(1, .int v_45), (0, .ref x)]) hx hb dX8_parseList_48 rfl hl (by decide) rfl (fun ls hl => ?_)
                refine lv_aload_n hx hb dX8_parseList_49 rfl (lv_at hl 1 rfl) ?_
                refine tw_geti 20 (v := nI 0) hx hb hts hown hKK hT (by decide) rfl (hP.2.1) (hts _ q2518) dX8_parseList_50 ?_
                refine mm_if_ne (tgt := 76) (by omega) hx hb dX8_parseList_53 (by decide) (fun c_53 => ?_) (fun c_53 => ?_)
                · exact absurd c_53 (by decide)
                · refine lv_aload_n hx hb dX8_parseList_56 rfl (lv_at hl 1 rfl) ?_
                  refine tw_geta 8 hx hb hts hown hKK hT rfl rfl (hts _ q2506) dX8_parseList_57 ?_
                  refine lv_aload_n hx hb dX8_parseList_60 rfl (lv_at hl 1 rfl) ?_
                  refine tw_geti 9 (v := nI c1) hx hb hts hown hKK hT (by decide) rfl (hk9) (hts _ q2507) dX8_parseList_61 ?_
                  refine lv_iload_n hx hb dX8_parseList_64 rfl (lv_at hl 0 rfl) ?_
                  refine tw_st 8 (k := c1) hx hb hKK hT hS hMa rfl rfl (by show _ < 64; omega) dX8_parseList_65 (fun H_65 L_65 hT hz_65 hq_65 hS => ?_)
                  have hX : TX_ bt n I_45 ((tw_u F1 8 c1 (v_45))) := ⟨hX.1, hX.2.1, fun i hi => (congrFun (tw_uo (by decide)) i).trans (hX.2.2 i hi)⟩
                  have hF := hF.put hq_65 (hMP _ (.inr ⟨8, rfl, rfl⟩))
                  refine lv_aload_n hx hb dX8_parseList_66 rfl (lv_at hl 1 rfl) ?_
                  refine lv_dup hx hb dX8_parseList_67 rfl ?_
                  refine tw_geti 9 (v := nI c1) hx hb hts hown hKK hT (by decide) rfl (hk9) (hts _ q2507) dX8_parseList_68 ?_
                  refine lv_iconst (v := nI 1) hx hb dX8_parseList_71 (by decide) ?_
                  refine mm_iadd hx hb dX8_parseList_72 ?_
                  refine tw_put 9 hx hb hts hown hKK hT hS (hMx) (by decide) rfl (by decide) ⟨rfl, rfl⟩ (hts _ q2507) dX8_parseList_73 (fun H_73 L_73 hT hz_73 hq_73 hS => ?_)
                  have hX : TX_ bt n ((upd I_45 9 (nI (c1 + 1)))) ((tw_u F1 8 c1 (v_45))) := ⟨(tw_un (by decide)).trans hX.1, hX.2⟩
                  have hxi : exI [9, 16, 17, 18, 19, 20, 21] I ((upd I_45 9 (nI (c1 + 1)))) := hxi.tr (exI.u (by decide))
                  have hF := hF.put hq_73 (hMP x (.inl rfl))
                  have hP : PS bt n (.ok q_45) ((upd I_45 9 (nI (c1 + 1)))) := hP.cg (fun j h1 h2 => tw_un (by omega))
                  have hk9 : ((upd I_45 9 (nI (c1 + 1)))) 9 = nI (c1 + 1) := tw_up _ _ _
                  refine lv_goto (tgt := 15) hx hb dX8_parseList_76 (by decide) ?_
                  exact ih_15 q_45 (c1 + 1) (upd g1 c1 v_45) (f1 - 1) H_73 ((upd I_45 9 (nI (c1 + 1)))) ((tw_u F1 8 c1 (v_45))) _ _ (by omega) (by omega) (by rw [← hL1]; exact pL_s (by omega) c_27 hN_45) (by have := (pVal_gt hpn hN_45).1; omega) ((pVal_gt hpn hN_45).2) (lv_sub hl [1] rfl) hT hX hP hxi hF hk9 (he.tr (eqx.u (by decide))) (fun j hj => by rw [tw_us]; by_cases z : j = c1; rw [z]; exact pk_us.trans pk_us.symm; rw [pk_un z, pk_un z]; exact hg j (by omega)) hS
            · refine lv_iconst (v := nI 1) hx hb dX8_parseList_40 (by decide) ?_
              refine mm_top (y := mm_b true) rfl ?_
              refine lv_goto (tgt := 45) hx hb dX8_parseList_41 (by decide) ?_
              refine mm_top (y := mm_b (decide (c1 < 64))) (by rw [decide_eq_true (show c1 < 64 by omega)]) ?_
              refine mm_ri (va_runV (As := [.int (mm_b (decide (c1 < 64)))]) (rest := []) ⟨hx, hb, hml, hown, hts⟩ (t_parseValue l hT hX hP hF hMP) (cwV 1 hts (lw_V q2659 q2661 qs70 q164 q2662) rfl rfl rfl (by decide +kernel) ⟨Nat.le_of_ble_eq_true rfl, Nat.le_of_ble_eq_true rfl⟩) (mm_pV hKK (mm_rc hKK hT.2.1 mm_le.rf rfl)) rfl rfl hl.1 rfl (lv_room (Nat.le_of_ble_eq_true rfl)) dX8_parseList_45 ⟨Nat.le_of_ble_eq_true rfl, Nat.le_of_ble_eq_true rfl⟩) hS (mm_sS hS) (fun H_45 L_45 hB_45 hz_45 hq_45 hS => ?_)
              obtain ⟨I_45, hT, hx_45, hP⟩ := hB_45
              have hxi := hxi.tr (hx_45.mono (by decide))
              have hX : TX_ bt n I_45 F1 := ⟨(hx_45 13 (by decide)).trans hX.1, hX.2.1, hX.2.2⟩
              have hF := hF.keep hq_45 hMP
              have hk9 := (hx_45 9 (by decide)).trans hk9
              rcases hN_45 : pVal bt n (decide (c1 < 64)) p1 with ⟨c_45, o_45⟩ | ⟨v_45, q_45⟩
              · have hP : PS bt n (.error (c_45, o_45)) I_45 := by have hP : PS bt n (p_pos (pVal bt n (decide (c1 < 64)) p1)) I_45 := hP; rw [hN_45] at hP; exact hP
                have hce_40 := hP.1
                refine mm_top (y := 0) (by show p_vI (pVal bt n (decide (c1 < 64)) p1) = _; rw [hN_45]; rfl) ?_
                refine lv_istore_n (lv' := [(1, .int 0), (0, .ref x)]) hx hb dX8_parseList_48 rfl hl (by decide) rfl (fun ls hl => ?_)
                refine lv_aload_n hx hb dX8_parseList_49 rfl (lv_at hl 1 rfl) ?_
                refine tw_geti 20 (v := nI c_45) hx hb hts hown hKK hT (by decide) rfl (hP.2.1) (hts _ q2518) dX8_parseList_50 ?_
                refine mm_if_ne (tgt := 76) (by omega) hx hb dX8_parseList_53 (by decide) (fun c_53 => ?_) (fun c_53 => ?_)
                · refine lv_goto (tgt := 15) hx hb dX8_parseList_76 (by decide) ?_
                  refine lv_aload_n hx hb dX8_parseList_15 rfl (lv_at hl 1 rfl) ?_
                  refine tw_geti 20 (v := nI c_45) hx hb hts hown hKK hT (by decide) rfl (hP.2.1) (hts _ q2518) dX8_parseList_16 ?_
                  refine mm_if_ne (tgt := 79) (by omega) hx hb dX8_parseList_19 (by decide) (fun c_19 => ?_) (fun c_19 => ?_)
                  · refine lv_aload_n hx hb dX8_parseList_79 rfl (lv_at hl 1 rfl) ?_
                    refine mm_rv (va_runV (As := []) (rest := []) ⟨hx, hb, hml, hown, hts⟩ (t_parseSemicolon l hT hX hP) (cwV 0 hts (lw_V q2668 q2670 qs72 q164 q2671) rfl rfl rfl (by decide +kernel) ⟨Nat.le_of_ble_eq_true rfl, Nat.le_of_ble_eq_true rfl⟩) (mm_pV hKK (mm_rc hKK hT.2.1 mm_le.rf rfl)) rfl rfl hl.1 rfl (lv_room (Nat.le_of_ble_eq_true rfl)) dX8_parseList_80 ⟨Nat.le_of_ble_eq_true rfl, Nat.le_of_ble_eq_true rfl⟩) hS (mm_sS hS) (fun H_80 L_80 hB_80 hz_80 hq_80 hS => ?_)
                    obtain ⟨I_80, hT, hx_80, hP⟩ := hB_80
                    have hxi := hxi.tr (hx_80.mono (by decide))
                    have hX : TX_ bt n I_80 F1 := ⟨(hx_80 13 (by decide)).trans hX.1, hX.2.1, hX.2.2⟩
                    have hF := hF.keep hq_80 hMP
                    have hk9 := (hx_80 9 (by decide)).trans hk9
                    have hP : PS bt n (.error (c_45, o_45)) I_80 := hP
                    have hce_41 := hP.1
                    exact mm_vret hx hb hr hlk hS (Nat.le_of_ble_eq_true rfl) (Nat.le_of_ble_eq_true rfl) (⟨rfl, _, F1, hT, hxi, he, by rw [← hL1, pL_e (by omega) c_27 hN_45]; exact hP⟩) dX8_parseList_83
                  · exact absurd c_19 (by omega)
                · exact absurd c_53 (by omega)
              · have hP : PS bt n (.ok q_45) I_45 := by have hP : PS bt n (p_pos (pVal bt n (decide (c1 < 64)) p1)) I_45 := hP; rw [hN_45] at hP; exact hP
                have hbd_q_45 := tk_bd (b := bt) (show q_45 ≤ n from hP.1)
                refine mm_top (y := v_45) (by show p_vI (pVal bt n (decide (c1 < 64)) p1) = _; rw [hN_45]; rfl) ?_
                have hlt9 := of_decide_eq_true (pVal_rm hN_45)
                refine lv_istore_n (lv' := [(1, .int v_45), (0, .ref x)]) hx hb dX8_parseList_48 rfl hl (by decide) rfl (fun ls hl => ?_)
                refine lv_aload_n hx hb dX8_parseList_49 rfl (lv_at hl 1 rfl) ?_
                refine tw_geti 20 (v := nI 0) hx hb hts hown hKK hT (by decide) rfl (hP.2.1) (hts _ q2518) dX8_parseList_50 ?_
                refine mm_if_ne (tgt := 76) (by omega) hx hb dX8_parseList_53 (by decide) (fun c_53 => ?_) (fun c_53 => ?_)
                · exact absurd c_53 (by decide)
                · refine lv_aload_n hx hb dX8_parseList_56 rfl (lv_at hl 1 rfl) ?_
                  refine tw_geta 8 hx hb hts hown hKK hT rfl rfl (hts _ q2506) dX8_parseList_57 ?_
                  refine lv_aload_n hx hb dX8_parseList_60 rfl (lv_at hl 1 rfl) ?_
                  refine tw_geti 9 (v := nI c1) hx hb hts hown hKK hT (by decide) rfl (hk9) (hts _ q2507) dX8_parseList_61 ?_
                  refine lv_iload_n hx hb dX8_parseList_64 rfl (lv_at hl 0 rfl) ?_
                  refine tw_st 8 (k := c1) hx hb hKK hT hS hMa rfl rfl (by show _ < 64; omega) dX8_parseList_65 (fun H_65 L_65 hT hz_65 hq_65 hS => ?_)
                  have hX : TX_ bt n I_45 ((tw_u F1 8 c1 (v_45))) := ⟨hX.1, hX.2.1, fun i hi => (congrFun (tw_uo (by decide)) i).trans (hX.2.2 i hi)⟩
                  have hF := hF.put hq_65 (hMP _ (.inr ⟨8, rfl, rfl⟩))
                  refine lv_aload_n hx hb dX8_parseList_66 rfl (lv_at hl 1 rfl) ?_
                  refine lv_dup hx hb dX8_parseList_67 rfl ?_
                  refine tw_geti 9 (v := nI c1) hx hb hts hown hKK hT (by decide) rfl (hk9) (hts _ q2507) dX8_parseList_68 ?_
                  refine lv_iconst (v := nI 1) hx hb dX8_parseList_71 (by decide) ?_
                  refine mm_iadd hx hb dX8_parseList_72 ?_
                  refine tw_put 9 hx hb hts hown hKK hT hS (hMx) (by decide) rfl (by decide) ⟨rfl, rfl⟩ (hts _ q2507) dX8_parseList_73 (fun H_73 L_73 hT hz_73 hq_73 hS => ?_)
                  have hX : TX_ bt n ((upd I_45 9 (nI (c1 + 1)))) ((tw_u F1 8 c1 (v_45))) := ⟨(tw_un (by decide)).trans hX.1, hX.2⟩
                  have hxi : exI [9, 16, 17, 18, 19, 20, 21] I ((upd I_45 9 (nI (c1 + 1)))) := hxi.tr (exI.u (by decide))
                  have hF := hF.put hq_73 (hMP x (.inl rfl))
                  have hP : PS bt n (.ok q_45) ((upd I_45 9 (nI (c1 + 1)))) := hP.cg (fun j h1 h2 => tw_un (by omega))
                  have hk9 : ((upd I_45 9 (nI (c1 + 1)))) 9 = nI (c1 + 1) := tw_up _ _ _
                  refine lv_goto (tgt := 15) hx hb dX8_parseList_76 (by decide) ?_
                  exact ih_15 q_45 (c1 + 1) (upd g1 c1 v_45) (f1 - 1) H_73 ((upd I_45 9 (nI (c1 + 1)))) ((tw_u F1 8 c1 (v_45))) _ _ (by omega) (by omega) (by rw [← hL1]; exact pL_s (by omega) c_27 hN_45) (by have := (pVal_gt hpn hN_45).1; omega) ((pVal_gt hpn hN_45).2) (lv_sub hl [1] rfl) hT hX hP hxi hF hk9 (he.tr (eqx.u (by decide))) (fun j hj => by rw [tw_us]; by_cases z : j = c1; rw [z]; exact pk_us.trans pk_us.symm; rw [pk_un z, pk_un z]; exact hg j (by omega)) hS
    exact lp_15 _ (tkE bt n p9) k9 g9 (n + 1) H_12 I_12 F _ _ (Nat.lt_succ_self _) (by omega) ((if_pos hw_4).symm) (by omega) (hP.1) (lv_sub hl [0] rfl) hT hX hP hxi hF hk9 eqx.rf hg9 hS
  · refine mm_top (y := mm_b false) (congrArg mm_b hw_4) ?_
    refine lv_iconst (v := nI 1) hx hb dX8_parseList_7 (by decide) ?_
    refine mm_rv (va_runV (As := [.int (mm_b false), .int (nI 1)]) (rest := []) ⟨hx, hb, hml, hown, hts⟩ (t_expect l hT hX hP (by decide) (by decide)) (cwV 2 hts (lw_V q2655 q2657 qs69 q164 q2658) rfl rfl rfl (by decide +kernel) ⟨Nat.le_of_ble_eq_true rfl, Nat.le_of_ble_eq_true rfl⟩) (mm_pV hKK (mm_rc hKK hT.2.1 mm_le.rf rfl)) rfl rfl hl.1 rfl (lv_room (Nat.le_of_ble_eq_true rfl)) dX8_parseList_8 ⟨Nat.le_of_ble_eq_true rfl, Nat.le_of_ble_eq_true rfl⟩) hS (mm_sS hS) (fun H_8 L_8 hB_8 hz_8 hq_8 hS => ?_)
    obtain ⟨I_8, hT, hx_8, hP⟩ := hB_8
    have hxi := hxi.tr (hx_8.mono (by decide))
    have hX : TX_ bt n I_8 F := ⟨(hx_8 13 (by decide)).trans hX.1, hX.2.1, hX.2.2⟩
    have hF := hF.keep hq_8 hMP
    have hk9 := (hx_8 9 (by decide)).trans hk9
    have hP : PS bt n (.error (1, tkS bt n p9)) I_8 := hP
    have hce_42 := hP.1
    refine lv_aload_n hx hb dX8_parseList_11 rfl (lv_at hl 0 rfl) ?_
    refine mm_rv (va_runV (As := []) (rest := []) ⟨hx, hb, hml, hown, hts⟩ (t_advance l hT hX hP) (cwV 0 hts (lw_V q2618 q2620 qs64 q164 q2621) rfl rfl rfl (by decide +kernel) ⟨Nat.le_of_ble_eq_true rfl, Nat.le_of_ble_eq_true rfl⟩) (mm_pV hKK (mm_rc hKK hT.2.1 mm_le.rf rfl)) rfl rfl hl.1 rfl (lv_room (Nat.le_of_ble_eq_true rfl)) dX8_parseList_12 ⟨Nat.le_of_ble_eq_true rfl, Nat.le_of_ble_eq_true rfl⟩) hS (mm_sS hS) (fun H_12 L_12 hB_12 hz_12 hq_12 hS => ?_)
    obtain ⟨I_12, hT, hx_12, hP⟩ := hB_12
    have hxi := hxi.tr (hx_12.mono (by decide))
    have hX : TX_ bt n I_12 F := ⟨(hx_12 13 (by decide)).trans hX.1, hX.2.1, hX.2.2⟩
    have hF := hF.keep hq_12 hMP
    have hk9 := (hx_12 9 (by decide)).trans hk9
    have hP : PS bt n (.error (1, tkS bt n p9)) I_12 := hP
    have hce_43 := hP.1
    refine lv_aload_n hx hb dX8_parseList_15 rfl (lv_at hl 0 rfl) ?_
    refine tw_geti 20 (v := nI 1) hx hb hts hown hKK hT (by decide) rfl (hP.2.1) (hts _ q2518) dX8_parseList_16 ?_
    refine mm_if_ne (tgt := 79) (by omega) hx hb dX8_parseList_19 (by decide) (fun c_19 => ?_) (fun c_19 => ?_)
    · refine lv_aload_n hx hb dX8_parseList_79 rfl (lv_at hl 0 rfl) ?_
      refine mm_rv (va_runV (As := []) (rest := []) ⟨hx, hb, hml, hown, hts⟩ (t_parseSemicolon l hT hX hP) (cwV 0 hts (lw_V q2668 q2670 qs72 q164 q2671) rfl rfl rfl (by decide +kernel) ⟨Nat.le_of_ble_eq_true rfl, Nat.le_of_ble_eq_true rfl⟩) (mm_pV hKK (mm_rc hKK hT.2.1 mm_le.rf rfl)) rfl rfl hl.1 rfl (lv_room (Nat.le_of_ble_eq_true rfl)) dX8_parseList_80 ⟨Nat.le_of_ble_eq_true rfl, Nat.le_of_ble_eq_true rfl⟩) hS (mm_sS hS) (fun H_80 L_80 hB_80 hz_80 hq_80 hS => ?_)
      obtain ⟨I_80, hT, hx_80, hP⟩ := hB_80
      have hxi := hxi.tr (hx_80.mono (by decide))
      have hX : TX_ bt n I_80 F := ⟨(hx_80 13 (by decide)).trans hX.1, hX.2.1, hX.2.2⟩
      have hF := hF.keep hq_80 hMP
      have hk9 := (hx_80 9 (by decide)).trans hk9
      have hP : PS bt n (.error (1, tkS bt n p9)) I_80 := hP
      have hce_44 := hP.1
      exact mm_vret hx hb hr hlk hS (Nat.le_of_ble_eq_true rfl) (Nat.le_of_ble_eq_true rfl) (⟨rfl, _, F, hT, hxi, eqx.rf, by rw [show pLi bt n p9 k9 g9 = .error (1, tkS bt n p9) from if_neg (by rw [hw_4]; decide)]; exact hP⟩) dX8_parseList_83
    · exact absurd c_19 (by decide)
