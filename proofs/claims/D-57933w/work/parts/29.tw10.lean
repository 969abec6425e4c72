/-! the twin: checks (printed by tools/tw10.py) -/
set_option maxRecDepth 100000 in
theorem t_check (l : Launch) {G : mm_G} {P : mm_H} {H : Heap} {x : Nat} {ad : Nat → Nat} {I : Nat → Int32} {F : Nat → Nat → Int32} {b1 b2 b3 : Bool} (hT : TW G x ad I F H) : Mt l yX8_check (ws_ yX8_check cX8_check 4 (some .boolean)) 0 0 0 0 G P [.ref x, .int (mm_b b1), .int (mm_b b2), .int (mm_b b3)] H (tw_M x ad) (mm_i (mm_b (b1 && b2 && b3)) (fun H2 => TW G x ad (upd I 6 (ck b1 b2 b3)) F H2)) := by
  refine Mt.of (by decide) (Nat.le_of_ble_eq_true rfl) (fun p e s m below meth c ls hx hb hr hlk hml hown hnm hts hKK hsH hl hS => ?_)
  have hl : lv_has ls 4 [(0, .ref x), (1, .int (mm_b b1)), (2, .int (mm_b b2)), (3, .int (mm_b b3))] := hl
  have hMx : mm_A (tw_M x ad) H x := Or.inl (Or.inl rfl)
  have hMa : ∀ j, tw_isA j = true → mm_A (tw_M x ad) H (ad j) := fun j hj => Or.inl (Or.inr ⟨j, hj, rfl⟩)
  refine lv_aload_n hx hb dX8_check_0 rfl (lv_at hl 0 rfl) ?_
  refine lv_iload_n hx hb dX8_check_1 rfl (lv_at hl 1 rfl) ?_
  refine mm_ifneB (tgt := 9) hx hb dX8_check_2 (by decide) (fun c_2 => ?_) (fun c_2 => ?_)
  · refine lv_iload_n hx hb dX8_check_9 rfl (lv_at hl 2 rfl) ?_
    refine mm_ifneB (tgt := 17) hx hb dX8_check_10 (by decide) (fun c_10 => ?_) (fun c_10 => ?_)
    · refine lv_iload_n hx hb dX8_check_17 rfl (lv_at hl 3 rfl) ?_
      refine mm_ifneB (tgt := 25) hx hb dX8_check_18 (by decide) (fun c_18 => ?_) (fun c_18 => ?_)
      · refine lv_iconst (v := nI 0) hx hb dX8_check_25 (by decide) ?_
        refine tw_put 6 hx hb hts hown hKK hT hS (hMx) (by decide) rfl (by decide) ⟨rfl, rfl⟩ (hts _ q2504) dX8_check_26 (fun H_26 L_26 hT hz_26 hq_26 hS => ?_)
        refine lv_aload_n hx hb dX8_check_29 rfl (lv_at hl 0 rfl) ?_
        refine tw_geti 6 (v := nI 0) hx hb hts hown hKK hT (by decide) rfl (tw_up _ _ _) (hts _ q2504) dX8_check_30 ?_
        refine mm_if_ne (tgt := 40) (by omega) hx hb dX8_check_33 (by decide) (fun c_33 => ?_) (fun c_33 => ?_)
        · exact absurd c_33 (by decide)
        · refine lv_iconst (v := nI 1) hx hb dX8_check_36 (by decide) ?_
          refine lv_goto (tgt := 41) hx hb dX8_check_37 (by decide) ?_
          exact mm_zret (v := nI 1) hx hb hr hlk hS (Nat.le_of_ble_eq_true rfl) (Nat.le_of_ble_eq_true rfl) (rfl) (⟨by rw [c_2, c_10, c_18]; rfl, by rw [c_2, c_10, c_18]; exact hT⟩) dX8_check_41
      · refine lv_iconst (v := nI 3) hx hb dX8_check_21 (by decide) ?_
        refine lv_goto (tgt := 26) hx hb dX8_check_22 (by decide) ?_
        refine tw_put 6 hx hb hts hown hKK hT hS (hMx) (by decide) rfl (by decide) ⟨rfl, rfl⟩ (hts _ q2504) dX8_check_26 (fun H_26 L_26 hT hz_26 hq_26 hS => ?_)
        refine lv_aload_n hx hb dX8_check_29 rfl (lv_at hl 0 rfl) ?_
        refine tw_geti 6 (v := nI 3) hx hb hts hown hKK hT (by decide) rfl (tw_up _ _ _) (hts _ q2504) dX8_check_30 ?_
        refine mm_if_ne (tgt := 40) (by omega) hx hb dX8_check_33 (by decide) (fun c_33 => ?_) (fun c_33 => ?_)
        · refine lv_iconst (v := nI 0) hx hb dX8_check_40 (by decide) ?_
          exact mm_zret (v := nI 0) hx hb hr hlk hS (Nat.le_of_ble_eq_true rfl) (Nat.le_of_ble_eq_true rfl) (rfl) (⟨by rw [c_2, c_10, c_18]; rfl, by rw [c_2, c_10, c_18]; exact hT⟩) dX8_check_41
        · exact absurd c_33 (by decide)
    · refine lv_iconst (v := nI 2) hx hb dX8_check_13 (by decide) ?_
      refine lv_goto (tgt := 26) hx hb dX8_check_14 (by decide) ?_
      refine tw_put 6 hx hb hts hown hKK hT hS (hMx) (by decide) rfl (by decide) ⟨rfl, rfl⟩ (hts _ q2504) dX8_check_26 (fun H_26 L_26 hT hz_26 hq_26 hS => ?_)
      refine lv_aload_n hx hb dX8_check_29 rfl (lv_at hl 0 rfl) ?_
      refine tw_geti 6 (v := nI 2) hx hb hts hown hKK hT (by decide) rfl (tw_up _ _ _) (hts _ q2504) dX8_check_30 ?_
      refine mm_if_ne (tgt := 40) (by omega) hx hb dX8_check_33 (by decide) (fun c_33 => ?_) (fun c_33 => ?_)
      · refine lv_iconst (v := nI 0) hx hb dX8_check_40 (by decide) ?_
        exact mm_zret (v := nI 0) hx hb hr hlk hS (Nat.le_of_ble_eq_true rfl) (Nat.le_of_ble_eq_true rfl) (rfl) (⟨by rw [c_2, c_10]; rfl, by rw [c_2, c_10]; exact hT⟩) dX8_check_41
      · exact absurd c_33 (by decide)
  · refine lv_iconst (v := nI 1) hx hb dX8_check_5 (by decide) ?_
    refine lv_goto (tgt := 26) hx hb dX8_check_6 (by decide) ?_
    refine tw_put 6 hx hb hts hown hKK hT hS (hMx) (by decide) rfl (by decide) ⟨rfl, rfl⟩ (hts _ q2504) dX8_check_26 (fun H_26 L_26 hT hz_26 hq_26 hS => ?_)
    refine lv_aload_n hx hb dX8_check_29 rfl (lv_at hl 0 rfl) ?_
    refine tw_geti 6 (v := nI 1) hx hb hts hown hKK hT (by decide) rfl (tw_up _ _ _) (hts _ q2504) dX8_check_30 ?_
    refine mm_if_ne (tgt := 40) (by omega) hx hb dX8_check_33 (by decide) (fun c_33 => ?_) (fun c_33 => ?_)
    · refine lv_iconst (v := nI 0) hx hb dX8_check_40 (by decide) ?_
      exact mm_zret (v := nI 0) hx hb hr hlk hS (Nat.le_of_ble_eq_true rfl) (Nat.le_of_ble_eq_true rfl) (rfl) (⟨by rw [c_2]; rfl, by rw [c_2]; exact hT⟩) dX8_check_41
    · exact absurd c_33 (by decide)
set_option maxRecDepth 100000 in
theorem t_checkVersion (l : Launch) {G : mm_G} {P : mm_H} {H : Heap} {x : Nat} {ad : Nat → Nat} {I : Nat → Int32} {F : Nat → Nat → Int32} {S : sp_S} {a : Int32} (hT : TW G x ad I F H) (hR : TR (F 0) S) (hW : WF S) : Mt l yX8_checkVersion (ws_ yX8_checkVersion cX8_checkVersion 2 (some .boolean)) 4 100 0 0 G P [.ref x, .int a] H (tw_M x ad) (mm_i (mm_b (inR a (s_nv S))) (fun H2 => TW G x ad (upd I 6 (ck (inR a (s_nv S)) true true)) F H2)) := by
  refine Mt.of (by decide) (Nat.le_of_ble_eq_true rfl) (fun p e s m below meth c ls hx hb hr hlk hml hown hnm hts hKK hsH hl hS => ?_)
  have hl : lv_has ls 2 [(0, .ref x), (1, .int a)] := hl
  have hR0 := hR
  have hMx : mm_A (tw_M x ad) H x := Or.inl (Or.inl rfl)
  have hMa : ∀ j, tw_isA j = true → mm_A (tw_M x ad) H (ad j) := fun j hj => Or.inl (Or.inr ⟨j, hj, rfl⟩)
  have hnv := hW.nv
  have hnn := hW.nn
  refine lv_aload_n hx hb dX8_checkVersion_0 rfl (lv_at hl 0 rfl) ?_
  refine lv_aload_n hx hb dX8_checkVersion_1 rfl (lv_at hl 0 rfl) ?_
  refine lv_iload_n hx hb dX8_checkVersion_2 rfl (lv_at hl 1 rfl) ?_
  refine mm_rpu (va_runV (As := [.int a]) (rest := [.ref x]) ⟨hx, hb, hml, hown, hts⟩ (t_isVersion l hT hR hW) (cwV 1 hts (lw_V q2713 q2715 qs81 q164 q2716) rfl rfl rfl (by decide +kernel) ⟨Nat.le_of_ble_eq_true rfl, Nat.le_of_ble_eq_true rfl⟩) (mm_pV hKK (mm_rc hKK hT.2.1 mm_le.rf rfl)) rfl rfl hl.1 rfl (lv_room (Nat.le_of_ble_eq_true rfl)) dX8_checkVersion_3 ⟨Nat.le_of_ble_eq_true rfl, Nat.le_of_ble_eq_true rfl⟩) hS (mm_s0 hS) (fun L_3 hS => ?_)
  refine lv_iconst (v := nI 1) hx hb dX8_checkVersion_6 (by decide) ?_
  refine mm_top (y := mm_b true) rfl ?_
  refine lv_iconst (v := nI 1) hx hb dX8_checkVersion_7 (by decide) ?_
  refine mm_top (y := mm_b true) rfl ?_
  refine mm_ri (va_runV (As := [.int (mm_b (inR a (s_nv S))), .int (mm_b true), .int (mm_b true)]) (rest := []) ⟨hx, hb, hml, hown, hts⟩ (t_check l hT) (cwV 3 hts (lw_V q2841 q2843 qs110 q164 q2844) rfl rfl rfl (by decide +kernel) ⟨Nat.le_of_ble_eq_true rfl, Nat.le_of_ble_eq_true rfl⟩) (mm_pV hKK (mm_rc hKK hT.2.1 mm_le.rf rfl)) rfl rfl hl.1 rfl (lv_room (Nat.le_of_ble_eq_true rfl)) dX8_checkVersion_8 ⟨Nat.le_of_ble_eq_true rfl, Nat.le_of_ble_eq_true rfl⟩) hS (mm_sS hS) (fun H_8 L_8 hT hz_8 hq_8 hS => ?_)
  exact mm_zret (v := mm_b ((inR a (s_nv S)) && true && true)) hx hb hr hlk hS (Nat.le_of_ble_eq_true rfl) (Nat.le_of_ble_eq_true rfl) (mm_nb _) (⟨by rw [Bool.and_true, Bool.and_true], hT⟩) dX8_checkVersion_11
set_option maxRecDepth 100000 in
theorem t_checkNode (l : Launch) {G : mm_G} {P : mm_H} {H : Heap} {x : Nat} {ad : Nat → Nat} {I : Nat → Int32} {F : Nat → Nat → Int32} {S : sp_S} {a : Int32} (hT : TW G x ad I F H) (hR : TR (F 0) S) (hW : WF S) : Mt l yX8_checkNode (ws_ yX8_checkNode cX8_checkNode 2 (some .boolean)) 4 100 0 0 G P [.ref x, .int a] H (tw_M x ad) (mm_i (mm_b (isSt S a)) (fun H2 => TW G x ad (upd I 6 (ck (isSt S a) true true)) F H2)) := by
  refine Mt.of (by decide) (Nat.le_of_ble_eq_true rfl) (fun p e s m below meth c ls hx hb hr hlk hml hown hnm hts hKK hsH hl hS => ?_)
  have hl : lv_has ls 2 [(0, .ref x), (1, .int a)] := hl
  have hR0 := hR
  have hMx : mm_A (tw_M x ad) H x := Or.inl (Or.inl rfl)
  have hMa : ∀ j, tw_isA j = true → mm_A (tw_M x ad) H (ad j) := fun j hj => Or.inl (Or.inr ⟨j, hj, rfl⟩)
  have hnv := hW.nv
  have hnn := hW.nn
  refine lv_aload_n hx hb dX8_checkNode_0 rfl (lv_at hl 0 rfl) ?_
  refine lv_aload_n hx hb dX8_checkNode_1 rfl (lv_at hl 0 rfl) ?_
  refine lv_iload_n hx hb dX8_checkNode_2 rfl (lv_at hl 1 rfl) ?_
  refine mm_rpu (va_runV (As := [.int a]) (rest := [.ref x]) ⟨hx, hb, hml, hown, hts⟩ (t_isStored l hT hR hW) (cwV 1 hts (lw_V q2817 q2819 qs107 q164 q2820) rfl rfl rfl (by decide +kernel) ⟨Nat.le_of_ble_eq_true rfl, Nat.le_of_ble_eq_true rfl⟩) (mm_pV hKK (mm_rc hKK hT.2.1 mm_le.rf rfl)) rfl rfl hl.1 rfl (lv_room (Nat.le_of_ble_eq_true rfl)) dX8_checkNode_3 ⟨Nat.le_of_ble_eq_true rfl, Nat.le_of_ble_eq_true rfl⟩) hS (mm_s0 hS) (fun L_3 hS => ?_)
  refine lv_iconst (v := nI 1) hx hb dX8_checkNode_6 (by decide) ?_
  refine mm_top (y := mm_b true) rfl ?_
  refine lv_iconst (v := nI 1) hx hb dX8_checkNode_7 (by decide) ?_
  refine mm_top (y := mm_b true) rfl ?_
  refine mm_ri (va_runV (As := [.int (mm_b (isSt S a)), .int (mm_b true), .int (mm_b true)]) (rest := []) ⟨hx, hb, hml, hown, hts⟩ (t_check l hT) (cwV 3 hts (lw_V q2841 q2843 qs110 q164 q2844) rfl rfl rfl (by decide +kernel) ⟨Nat.le_of_ble_eq_true rfl, Nat.le_of_ble_eq_true rfl⟩) (mm_pV hKK (mm_rc hKK hT.2.1 mm_le.rf rfl)) rfl rfl hl.1 rfl (lv_room (Nat.le_of_ble_eq_true rfl)) dX8_checkNode_8 ⟨Nat.le_of_ble_eq_true rfl, Nat.le_of_ble_eq_true rfl⟩) hS (mm_sS hS) (fun H_8 L_8 hT hz_8 hq_8 hS => ?_)
  exact mm_zret (v := mm_b ((isSt S a) && true && true)) hx hb hr hlk hS (Nat.le_of_ble_eq_true rfl) (Nat.le_of_ble_eq_true rfl) (mm_nb _) (⟨by rw [Bool.and_true, Bool.and_true], hT⟩) dX8_checkNode_11
set_option maxRecDepth 100000 in
theorem t_checkLive (l : Launch) {G : mm_G} {P : mm_H} {H : Heap} {x : Nat} {ad : Nat → Nat} {I : Nat → Int32} {F : Nat → Nat → Int32} {S : sp_S} {a : Int32} (hT : TW G x ad I F H) (hR : TR (F 0) S) (hW : WF S) : Mt l yX8_checkLive (ws_ yX8_checkLive cX8_checkLive 3 (some .boolean)) 4 100 0 0 G P [.ref x, .int a] H (tw_M x ad) (mm_i (mm_b (isLv S a)) (fun H2 => TW G x ad (upd I 6 (ck (inR a (s_nv S)) (isLv S a) true)) F H2)) := by
  refine Mt.of (by decide) (Nat.le_of_ble_eq_true rfl) (fun p e s m below meth c ls hx hb hr hlk hml hown hnm hts hKK hsH hl hS => ?_)
  have hl : lv_has ls 3 [(0, .ref x), (1, .int a)] := hl
  have hR0 := hR
  have hMx : mm_A (tw_M x ad) H x := Or.inl (Or.inl rfl)
  have hMa : ∀ j, tw_isA j = true → mm_A (tw_M x ad) H (ad j) := fun j hj => Or.inl (Or.inr ⟨j, hj, rfl⟩)
  have hnv := hW.nv
  have hnn := hW.nn
  refine lv_aload_n hx hb dX8_checkLive_0 rfl (lv_at hl 0 rfl) ?_
  refine lv_iload_n hx hb dX8_checkLive_1 rfl (lv_at hl 1 rfl) ?_
  refine mm_rpu (va_runV (As := [.int a]) (rest := []) ⟨hx, hb, hml, hown, hts⟩ (t_isVersion l hT hR hW) (cwV 1 hts (lw_V q2713 q2715 qs81 q164 q2716) rfl rfl rfl (by decide +kernel) ⟨Nat.le_of_ble_eq_true rfl, Nat.le_of_ble_eq_true rfl⟩) (mm_pV hKK (mm_rc hKK hT.2.1 mm_le.rf rfl)) rfl rfl hl.1 rfl (lv_room (Nat.le_of_ble_eq_true rfl)) dX8_checkLive_2 ⟨Nat.le_of_ble_eq_true rfl, Nat.le_of_ble_eq_true rfl⟩) hS (mm_s0 hS) (fun L_2 hS => ?_)
  refine lv_istore_n (lv' := [(2, .int (mm_b (inR a (s_nv S)))), (0, .ref x), (1, .int a)]) hx hb dX8_checkLive_5 rfl hl (by decide) rfl (fun ls hl => ?_)
  refine lv_aload_n hx hb dX8_checkLive_6 rfl (lv_at hl 1 rfl) ?_
  refine lv_iload_n hx hb dX8_checkLive_7 rfl (lv_at hl 0 rfl) ?_
  refine lv_iload_n hx hb dX8_checkLive_8 rfl (lv_at hl 0 rfl) ?_
  refine mm_ifeqB (tgt := 24) hx hb dX8_checkLive_9 (by decide) (fun c_9 => ?_) (fun c_9 => ?_)
  · refine lv_iconst (v := nI 0) hx hb dX8_checkLive_24 (by decide) ?_
    refine mm_top (y := mm_b false) rfl ?_
    refine lv_iconst (v := nI 1) hx hb dX8_checkLive_25 (by decide) ?_
    refine mm_top (y := mm_b true) rfl ?_
    refine mm_ri (va_runV (As := [.int (mm_b (inR a (s_nv S))), .int (mm_b false), .int (mm_b true)]) (rest := []) ⟨hx, hb, hml, hown, hts⟩ (t_check l hT) (cwV 3 hts (lw_V q2841 q2843 qs110 q164 q2844) rfl rfl rfl (by decide +kernel) ⟨Nat.le_of_ble_eq_true rfl, Nat.le_of_ble_eq_true rfl⟩) (mm_pV hKK (mm_rc hKK hT.2.1 mm_le.rf rfl)) rfl rfl hl.1 rfl (lv_room (Nat.le_of_ble_eq_true rfl)) dX8_checkLive_26 ⟨Nat.le_of_ble_eq_true rfl, Nat.le_of_ble_eq_true rfl⟩) hS (mm_sS hS) (fun H_26 L_26 hT hz_26 hq_26 hS => ?_)
    have hb2 : false = isLv S a := (isLv_f c_9).symm
    exact mm_zret (v := mm_b ((inR a (s_nv S)) && false && true)) hx hb hr hlk hS (Nat.le_of_ble_eq_true rfl) (Nat.le_of_ble_eq_true rfl) (mm_nb _) (⟨by rw [ckl hb2], by rw [← hb2]; exact hT⟩) dX8_checkLive_29
  · have hina := c_9
    obtain ⟨ja, hja, heja, hcja⟩ := inR_t hina
    have hl : lv_has ls 3 [(2, .int (mm_b (inR a (s_nv S)))), (0, .ref x), (1, .int (nI ja))] := by simpa only [heja] using hl
    refine lv_aload_n hx hb dX8_checkLive_12 rfl (lv_at hl 1 rfl) ?_
    refine lv_iload_n hx hb dX8_checkLive_13 rfl (lv_at hl 2 rfl) ?_
    refine mm_rpu (va_runV (As := [.int (nI ja)]) (rest := [.int (mm_b (inR a (s_nv S))), .ref x]) ⟨hx, hb, hml, hown, hts⟩ (t_isGone l hT hR hW (by first | assumption | omega)) (cwV 1 hts (lw_V q2717 q2719 qs82 q164 q2720) rfl rfl rfl (by decide +kernel) ⟨Nat.le_of_ble_eq_true rfl, Nat.le_of_ble_eq_true rfl⟩) (mm_pV hKK (mm_rc hKK hT.2.1 mm_le.rf rfl)) rfl rfl hl.1 rfl (lv_room (Nat.le_of_ble_eq_true rfl)) dX8_checkLive_14 ⟨Nat.le_of_ble_eq_true rfl, Nat.le_of_ble_eq_true rfl⟩) hS (mm_s0 hS) (fun L_14 hS => ?_)
    refine mm_ifneB (tgt := 24) hx hb dX8_checkLive_17 (by decide) (fun c_17 => ?_) (fun c_17 => ?_)
    · refine lv_iconst (v := nI 0) hx hb dX8_checkLive_24 (by decide) ?_
      refine mm_top (y := mm_b false) rfl ?_
      refine lv_iconst (v := nI 1) hx hb dX8_checkLive_25 (by decide) ?_
      refine mm_top (y := mm_b true) rfl ?_
      refine mm_ri (va_runV (As := [.int (mm_b (inR a (s_nv S))), .int (mm_b false), .int (mm_b true)]) (rest := []) ⟨hx, hb, hml, hown, hts⟩ (t_check l hT) (cwV 3 hts (lw_V q2841 q2843 qs110 q164 q2844) rfl rfl rfl (by decide +kernel) ⟨Nat.le_of_ble_eq_true rfl, Nat.le_of_ble_eq_true rfl⟩) (mm_pV hKK (mm_rc hKK hT.2.1 mm_le.rf rfl)) rfl rfl hl.1 rfl (lv_room (Nat.le_of_ble_eq_true rfl)) dX8_checkLive_26 ⟨Nat.le_of_ble_eq_true rfl, Nat.le_of_ble_eq_true rfl⟩) hS (mm_sS hS) (fun H_26 L_26 hT hz_26 hq_26 hS => ?_)
      have hb2 : false = isLv S a := by rw [heja, isLv_n hja hnv, c_17]; rfl
      exact mm_zret (v := mm_b ((inR a (s_nv S)) && false && true)) hx hb hr hlk hS (Nat.le_of_ble_eq_true rfl) (Nat.le_of_ble_eq_true rfl) (mm_nb _) (⟨by rw [ckl hb2], by rw [← hb2]; exact hT⟩) dX8_checkLive_29
    · refine lv_iconst (v := nI 1) hx hb dX8_checkLive_20 (by decide) ?_
      refine mm_top (y := mm_b true) rfl ?_
      refine lv_goto (tgt := 25) hx hb dX8_checkLive_21 (by decide) ?_
      refine lv_iconst (v := nI 1) hx hb dX8_checkLive_25 (by decide) ?_
      refine mm_top (y := mm_b true) rfl ?_
      refine mm_ri (va_runV (As := [.int (mm_b (inR a (s_nv S))), .int (mm_b true), .int (mm_b true)]) (rest := []) ⟨hx, hb, hml, hown, hts⟩ (t_check l hT) (cwV 3 hts (lw_V q2841 q2843 qs110 q164 q2844) rfl rfl rfl (by decide +kernel) ⟨Nat.le_of_ble_eq_true rfl, Nat.le_of_ble_eq_true rfl⟩) (mm_pV hKK (mm_rc hKK hT.2.1 mm_le.rf rfl)) rfl rfl hl.1 rfl (lv_room (Nat.le_of_ble_eq_true rfl)) dX8_checkLive_26 ⟨Nat.le_of_ble_eq_true rfl, Nat.le_of_ble_eq_true rfl⟩) hS (mm_sS hS) (fun H_26 L_26 hT hz_26 hq_26 hS => ?_)
      have hb2 : true = isLv S a := by rw [heja, isLv_n hja hnv, c_17]; rfl
      exact mm_zret (v := mm_b ((inR a (s_nv S)) && true && true)) hx hb hr hlk hS (Nat.le_of_ble_eq_true rfl) (Nat.le_of_ble_eq_true rfl) (mm_nb _) (⟨by rw [ckl hb2], by rw [← hb2]; exact hT⟩) dX8_checkLive_29
set_option maxRecDepth 100000 in
theorem t_checkElement (l : Launch) {G : mm_G} {P : mm_H} {H : Heap} {x : Nat} {ad : Nat → Nat} {I : Nat → Int32} {F : Nat → Nat → Int32} {S : sp_S} {a b : Int32} (hT : TW G x ad I F H) (hR : TR (F 0) S) (hW : WF S) : Mt l yX8_checkElement (ws_ yX8_checkElement cX8_checkElement 4 (some .boolean)) 4 100 0 0 G P [.ref x, .int a, .int b] H (tw_M x ad) (mm_i (mm_b (isEl S a b)) (fun H2 => TW G x ad (upd I 6 (ck (hasE S a b) (isEl S a b) true)) F H2)) := by
  refine Mt.of (by decide) (Nat.le_of_ble_eq_true rfl) (fun p e s m below meth c ls hx hb hr hlk hml hown hnm hts hKK hsH hl hS => ?_)
  have hl : lv_has ls 4 [(0, .ref x), (1, .int a), (2, .int b)] := hl
  have hR0 := hR
  have hMx : mm_A (tw_M x ad) H x := Or.inl (Or.inl rfl)
  have hMa : ∀ j, tw_isA j = true → mm_A (tw_M x ad) H (ad j) := fun j hj => Or.inl (Or.inr ⟨j, hj, rfl⟩)
  have hnv := hW.nv
  have hnn := hW.nn
  refine lv_aload_n hx hb dX8_checkElement_0 rfl (lv_at hl 0 rfl) ?_
  refine lv_iload_n hx hb dX8_checkElement_1 rfl (lv_at hl 1 rfl) ?_
  refine lv_iload_n hx hb dX8_checkElement_2 rfl (lv_at hl 2 rfl) ?_
  refine mm_rpu (va_runV (As := [.int a, .int b]) (rest := []) ⟨hx, hb, hml, hown, hts⟩ (t_hasElement l hT hR hW) (cwV 2 hts (lw_V q2889 q2891 qs114 q164 q2892) rfl rfl rfl (by decide +kernel) ⟨Nat.le_of_ble_eq_true rfl, Nat.le_of_ble_eq_true rfl⟩) (mm_pV hKK (mm_rc hKK hT.2.1 mm_le.rf rfl)) rfl rfl hl.1 rfl (lv_room (Nat.le_of_ble_eq_true rfl)) dX8_checkElement_3 ⟨Nat.le_of_ble_eq_true rfl, Nat.le_of_ble_eq_true rfl⟩) hS (mm_s0 hS) (fun L_3 hS => ?_)
  refine lv_istore_n (lv' := [(3, .int (mm_b (hasE S a b))), (0, .ref x), (1, .int a), (2, .int b)]) hx hb dX8_checkElement_6 rfl hl (by decide) rfl (fun ls hl => ?_)
  refine lv_aload_n hx hb dX8_checkElement_7 rfl (lv_at hl 1 rfl) ?_
  refine lv_iload_n hx hb dX8_checkElement_8 rfl (lv_at hl 0 rfl) ?_
  refine lv_iload_n hx hb dX8_checkElement_9 rfl (lv_at hl 0 rfl) ?_
  refine mm_ifeqB (tgt := 25) hx hb dX8_checkElement_10 (by decide) (fun c_10 => ?_) (fun c_10 => ?_)
  · refine lv_iconst (v := nI 0) hx hb dX8_checkElement_25 (by decide) ?_
    refine mm_top (y := mm_b false) rfl ?_
    refine lv_iconst (v := nI 1) hx hb dX8_checkElement_26 (by decide) ?_
    refine mm_top (y := mm_b true) rfl ?_
    refine mm_ri (va_runV (As := [.int (mm_b (hasE S a b)), .int (mm_b false), .int (mm_b true)]) (rest := []) ⟨hx, hb, hml, hown, hts⟩ (t_check l hT) (cwV 3 hts (lw_V q2841 q2843 qs110 q164 q2844) rfl rfl rfl (by decide +kernel) ⟨Nat.le_of_ble_eq_true rfl, Nat.le_of_ble_eq_true rfl⟩) (mm_pV hKK (mm_rc hKK hT.2.1 mm_le.rf rfl)) rfl rfl hl.1 rfl (lv_room (Nat.le_of_ble_eq_true rfl)) dX8_checkElement_27 ⟨Nat.le_of_ble_eq_true rfl, Nat.le_of_ble_eq_true rfl⟩) hS (mm_sS hS) (fun H_27 L_27 hT hz_27 hq_27 hS => ?_)
    have hb2 : false = isEl S a b := (isEl_f c_10).symm
    exact mm_zret (v := mm_b ((hasE S a b) && false && true)) hx hb hr hlk hS (Nat.le_of_ble_eq_true rfl) (Nat.le_of_ble_eq_true rfl) (mm_nb _) (⟨by rw [cke hb2], by rw [← hb2]; exact hT⟩) dX8_checkElement_30
  · have hina := hasE_in c_10
    obtain ⟨ja, hja, heja, hcja⟩ := inR_t hina
    have hl : lv_has ls 4 [(3, .int (mm_b (hasE S a b))), (0, .ref x), (1, .int (nI ja)), (2, .int b)] := by simpa only [heja] using hl
    refine lv_aload_n hx hb dX8_checkElement_13 rfl (lv_at hl 1 rfl) ?_
    refine lv_iload_n hx hb dX8_checkElement_14 rfl (lv_at hl 2 rfl) ?_
    refine mm_rpu (va_runV (As := [.int (nI ja)]) (rest := [.int (mm_b (hasE S a b)), .ref x]) ⟨hx, hb, hml, hown, hts⟩ (t_isGone l hT hR hW (by first | assumption | omega)) (cwV 1 hts (lw_V q2717 q2719 qs82 q164 q2720) rfl rfl rfl (by decide +kernel) ⟨Nat.le_of_ble_eq_true rfl, Nat.le_of_ble_eq_true rfl⟩) (mm_pV hKK (mm_rc hKK hT.2.1 mm_le.rf rfl)) rfl rfl hl.1 rfl (lv_room (Nat.le_of_ble_eq_true rfl)) dX8_checkElement_15 ⟨Nat.le_of_ble_eq_true rfl, Nat.le_of_ble_eq_true rfl⟩) hS (mm_s0 hS) (fun L_15 hS => ?_)
    refine mm_ifneB (tgt := 25) hx hb dX8_checkElement_18 (by decide) (fun c_18 => ?_) (fun c_18 => ?_)
    · refine lv_iconst (v := nI 0) hx hb dX8_checkElement_25 (by decide) ?_
      refine mm_top (y := mm_b false) rfl ?_
      refine lv_iconst (v := nI 1) hx hb dX8_checkElement_26 (by decide) ?_
      refine mm_top (y := mm_b true) rfl ?_
      refine mm_ri (va_runV (As := [.int (mm_b (hasE S a b)), .int (mm_b false), .int (mm_b true)]) (rest := []) ⟨hx, hb, hml, hown, hts⟩ (t_check l hT) (cwV 3 hts (lw_V q2841 q2843 qs110 q164 q2844) rfl rfl rfl (by decide +kernel) ⟨Nat.le_of_ble_eq_true rfl, Nat.le_of_ble_eq_true rfl⟩) (mm_pV hKK (mm_rc hKK hT.2.1 mm_le.rf rfl)) rfl rfl hl.1 rfl (lv_room (Nat.le_of_ble_eq_true rfl)) dX8_checkElement_27 ⟨Nat.le_of_ble_eq_true rfl, Nat.le_of_ble_eq_true rfl⟩) hS (mm_sS hS) (fun H_27 L_27 hT hz_27 hq_27 hS => ?_)
      have hb2 : false = isEl S a b := by unfold isEl; rw [c_10, hcja, c_18]; rfl
      exact mm_zret (v := mm_b ((hasE S a b) && false && true)) hx hb hr hlk hS (Nat.le_of_ble_eq_true rfl) (Nat.le_of_ble_eq_true rfl) (mm_nb _) (⟨by rw [cke hb2], by rw [← hb2]; exact hT⟩) dX8_checkElement_30
    · refine lv_iconst (v := nI 1) hx hb dX8_checkElement_21 (by decide) ?_
      refine mm_top (y := mm_b true) rfl ?_
      refine lv_goto (tgt := 26) hx hb dX8_checkElement_22 (by decide) ?_
      refine lv_iconst (v := nI 1) hx hb dX8_checkElement_26 (by decide) ?_
      refine mm_top (y := mm_b true) rfl ?_
      refine mm_ri (va_runV (As := [.int (mm_b (hasE S a b)), .int (mm_b true), .int (mm_b true)]) (rest := []) ⟨hx, hb, hml, hown, hts⟩ (t_check l hT) (cwV 3 hts (lw_V q2841 q2843 qs110 q164 q2844) rfl rfl rfl (by decide +kernel) ⟨Nat.le_of_ble_eq_true rfl, Nat.le_of_ble_eq_true rfl⟩) (mm_pV hKK (mm_rc hKK hT.2.1 mm_le.rf rfl)) rfl rfl hl.1 rfl (lv_room (Nat.le_of_ble_eq_true rfl)) dX8_checkElement_27 ⟨Nat.le_of_ble_eq_true rfl, Nat.le_of_ble_eq_true rfl⟩) hS (mm_sS hS) (fun H_27 L_27 hT hz_27 hq_27 hS => ?_)
      have hb2 : true = isEl S a b := by unfold isEl; rw [c_10, hcja, c_18]; rfl
      exact mm_zret (v := mm_b ((hasE S a b) && true && true)) hx hb hr hlk hS (Nat.le_of_ble_eq_true rfl) (Nat.le_of_ble_eq_true rfl) (mm_nb _) (⟨by rw [cke hb2], by rw [← hb2]; exact hT⟩) dX8_checkElement_30
set_option maxRecDepth 100000 in
theorem t_checkTwo (l : Launch) {G : mm_G} {P : mm_H} {H : Heap} {x : Nat} {ad : Nat → Nat} {I : Nat → Int32} {F : Nat → Nat → Int32} {S : sp_S} {a b : Int32} (hT : TW G x ad I F H) (hR : TR (F 0) S) (hW : WF S) : Mt l yX8_checkTwo (ws_ yX8_checkTwo cX8_checkTwo 4 (some .boolean)) 4 100 0 0 G P [.ref x, .int a, .int b] H (tw_M x ad) (mm_i (mm_b (is2 S a b)) (fun H2 => TW G x ad (upd I 6 (ck (inR a (s_nv S) && inR b (s_nv S)) (is2 S a b) true)) F H2)) := by
  refine Mt.of (by decide) (Nat.le_of_ble_eq_true rfl) (fun p e s m below meth c ls hx hb hr hlk hml hown hnm hts hKK hsH hl hS => ?_)
  have hl : lv_has ls 4 [(0, .ref x), (1, .int a), (2, .int b)] := hl
  have hR0 := hR
  have hMx : mm_A (tw_M x ad) H x := Or.inl (Or.inl rfl)
  have hMa : ∀ j, tw_isA j = true → mm_A (tw_M x ad) H (ad j) := fun j hj => Or.inl (Or.inr ⟨j, hj, rfl⟩)
  have hnv := hW.nv
  have hnn := hW.nn
  refine lv_aload_n hx hb dX8_checkTwo_0 rfl (lv_at hl 0 rfl) ?_
  refine lv_iload_n hx hb dX8_checkTwo_1 rfl (lv_at hl 1 rfl) ?_
  refine mm_rpu (va_runV (As := [.int a]) (rest := []) ⟨hx, hb, hml, hown, hts⟩ (t_isVersion l hT hR hW) (cwV 1 hts (lw_V q2713 q2715 qs81 q164 q2716) rfl rfl rfl (by decide +kernel) ⟨Nat.le_of_ble_eq_true rfl, Nat.le_of_ble_eq_true rfl⟩) (mm_pV hKK (mm_rc hKK hT.2.1 mm_le.rf rfl)) rfl rfl hl.1 rfl (lv_room (Nat.le_of_ble_eq_true rfl)) dX8_checkTwo_2 ⟨Nat.le_of_ble_eq_true rfl, Nat.le_of_ble_eq_true rfl⟩) hS (mm_s0 hS) (fun L_2 hS => ?_)
  refine mm_ifeqB (tgt := 20) hx hb dX8_checkTwo_5 (by decide) (fun c_5 => ?_) (fun c_5 => ?_)
  · refine lv_iconst (v := nI 0) hx hb dX8_checkTwo_20 (by decide) ?_
    refine mm_top (y := mm_b false) rfl ?_
    refine lv_istore_n (lv' := [(3, .int (mm_b false)), (0, .ref x), (1, .int a), (2, .int b)]) hx hb dX8_checkTwo_21 rfl hl (by decide) rfl (fun ls hl => ?_)
    refine lv_aload_n hx hb dX8_checkTwo_22 rfl (lv_at hl 1 rfl) ?_
    refine lv_iload_n hx hb dX8_checkTwo_23 rfl (lv_at hl 0 rfl) ?_
    refine lv_iload_n hx hb dX8_checkTwo_24 rfl (lv_at hl 0 rfl) ?_
    refine mm_ifeqB (tgt := 48) hx hb dX8_checkTwo_25 (by decide) (fun c_25 => ?_) (fun c_25 => ?_)
    · refine lv_iconst (v := nI 0) hx hb dX8_checkTwo_48 (by decide) ?_
      refine mm_top (y := mm_b false) rfl ?_
      refine lv_iconst (v := nI 1) hx hb dX8_checkTwo_49 (by decide) ?_
      refine mm_top (y := mm_b true) rfl ?_
      refine mm_ri (va_runV (As := [.int (mm_b false), .int (mm_b false), .int (mm_b true)]) (rest := []) ⟨hx, hb, hml, hown, hts⟩ (t_check l hT) (cwV 3 hts (lw_V q2841 q2843 qs110 q164 q2844) rfl rfl rfl (by decide +kernel) ⟨Nat.le_of_ble_eq_true rfl, Nat.le_of_ble_eq_true rfl⟩) (mm_pV hKK (mm_rc hKK hT.2.1 mm_le.rf rfl)) rfl rfl hl.1 rfl (lv_room (Nat.le_of_ble_eq_true rfl)) dX8_checkTwo_50 ⟨Nat.le_of_ble_eq_true rfl, Nat.le_of_ble_eq_true rfl⟩) hS (mm_sS hS) (fun H_50 L_50 hT hz_50 hq_50 hS => ?_)
      have hb1 : false = (inR a (s_nv S) && inR b (s_nv S)) := by rw [c_5]; rfl
      have hb2 : false = is2 S a b := by unfold is2; rw [← hb1]; rfl
      exact mm_zret (v := mm_b (false && false && true)) hx hb hr hlk hS (Nat.le_of_ble_eq_true rfl) (Nat.le_of_ble_eq_true rfl) (mm_nb _) (⟨by rw [ckt hb1 hb2], by rw [← hb1, ← hb2]; exact hT⟩) dX8_checkTwo_53
    · exact absurd c_25 (by decide)
  · have hina := c_5
    obtain ⟨ja, hja, heja, hcja⟩ := inR_t hina
    rw [heja] at hl
    refine lv_aload_n hx hb dX8_checkTwo_8 rfl (lv_at hl 0 rfl) ?_
    refine lv_iload_n hx hb dX8_checkTwo_9 rfl (lv_at hl 2 rfl) ?_
    refine mm_rpu (va_runV (As := [.int b]) (rest := []) ⟨hx, hb, hml, hown, hts⟩ (t_isVersion l hT hR hW) (cwV 1 hts (lw_V q2713 q2715 qs81 q164 q2716) rfl rfl rfl (by decide +kernel) ⟨Nat.le_of_ble_eq_true rfl, Nat.le_of_ble_eq_true rfl⟩) (mm_pV hKK (mm_rc hKK hT.2.1 mm_le.rf rfl)) rfl rfl hl.1 rfl (lv_room (Nat.le_of_ble_eq_true rfl)) dX8_checkTwo_10 ⟨Nat.le_of_ble_eq_true rfl, Nat.le_of_ble_eq_true rfl⟩) hS (mm_s0 hS) (fun L_10 hS => ?_)
    refine mm_ifeqB (tgt := 20) hx hb dX8_checkTwo_13 (by decide) (fun c_13 => ?_) (fun c_13 => ?_)
    · refine lv_iconst (v := nI 0) hx hb dX8_checkTwo_20 (by decide) ?_
      refine mm_top (y := mm_b false) rfl ?_
      refine lv_istore_n (lv' := [(3, .int (mm_b false)), (0, .ref x), (1, .int (nI ja)), (2, .int b)]) hx hb dX8_checkTwo_21 rfl hl (by decide) rfl (fun ls hl => ?_)
      refine lv_aload_n hx hb dX8_checkTwo_22 rfl (lv_at hl 1 rfl) ?_
      refine lv_iload_n hx hb dX8_checkTwo_23 rfl (lv_at hl 0 rfl) ?_
      refine lv_iload_n hx hb dX8_checkTwo_24 rfl (lv_at hl 0 rfl) ?_
      refine mm_ifeqB (tgt := 48) hx hb dX8_checkTwo_25 (by decide) (fun c_25 => ?_) (fun c_25 => ?_)
      · refine lv_iconst (v := nI 0) hx hb dX8_checkTwo_48 (by decide) ?_
        refine mm_top (y := mm_b false) rfl ?_
        refine lv_iconst (v := nI 1) hx hb dX8_checkTwo_49 (by decide) ?_
        refine mm_top (y := mm_b true) rfl ?_
        refine mm_ri (va_runV (As := [.int (mm_b false), .int (mm_b false), .int (mm_b true)]) (rest := []) ⟨hx, hb, hml, hown, hts⟩ (t_check l hT) (cwV 3 hts (lw_V q2841 q2843 qs110 q164 q2844) rfl rfl rfl (by decide +kernel) ⟨Nat.le_of_ble_eq_true rfl, Nat.le_of_ble_eq_true rfl⟩) (mm_pV hKK (mm_rc hKK hT.2.1 mm_le.rf rfl)) rfl rfl hl.1 rfl (lv_room (Nat.le_of_ble_eq_true rfl)) dX8_checkTwo_50 ⟨Nat.le_of_ble_eq_true rfl, Nat.le_of_ble_eq_true rfl⟩) hS (mm_sS hS) (fun H_50 L_50 hT hz_50 hq_50 hS => ?_)
        have hb1 : false = (inR a (s_nv S) && inR b (s_nv S)) := by rw [hina, c_13]; rfl
        have hb2 : false = is2 S a b := by unfold is2; rw [← hb1]; rfl
        exact mm_zret (v := mm_b (false && false && true)) hx hb hr hlk hS (Nat.le_of_ble_eq_true rfl) (Nat.le_of_ble_eq_true rfl) (mm_nb _) (⟨by rw [ckt hb1 hb2], by rw [← hb1, ← hb2]; exact hT⟩) dX8_checkTwo_53
      · exact absurd c_25 (by decide)
    · have hinb := c_13
      obtain ⟨jb, hjb, hejb, hcjb⟩ := inR_t hinb
      rw [hejb] at hl
      refine lv_iconst (v := nI 1) hx hb dX8_checkTwo_16 (by decide) ?_
      refine mm_top (y := mm_b true) rfl ?_
      refine lv_goto (tgt := 21) hx hb dX8_checkTwo_17 (by decide) ?_
      refine lv_istore_n (lv' := [(3, .int (mm_b true)), (0, .ref x), (1, .int (nI ja)), (2, .int (nI jb))]) hx hb dX8_checkTwo_21 rfl hl (by decide) rfl (fun ls hl => ?_)
      refine lv_aload_n hx hb dX8_checkTwo_22 rfl (lv_at hl 1 rfl) ?_
      refine lv_iload_n hx hb dX8_checkTwo_23 rfl (lv_at hl 0 rfl) ?_
      refine lv_iload_n hx hb dX8_checkTwo_24 rfl (lv_at hl 0 rfl) ?_
      refine mm_ifeqB (tgt := 48) hx hb dX8_checkTwo_25 (by decide) (fun c_25 => ?_) (fun c_25 => ?_)
      · exact absurd c_25 (by decide)
      · refine lv_aload_n hx hb dX8_checkTwo_28 rfl (lv_at hl 1 rfl) ?_
        refine lv_iload_n hx hb dX8_checkTwo_29 rfl (lv_at hl 2 rfl) ?_
        refine mm_rpu (va_runV (As := [.int (nI ja)]) (rest := [.int (mm_b true), .ref x]) ⟨hx, hb, hml, hown, hts⟩ (t_isGone l hT hR hW (by first | assumption | omega)) (cwV 1 hts (lw_V q2717 q2719 qs82 q164 q2720) rfl rfl rfl (by decide +kernel) ⟨Nat.le_of_ble_eq_true rfl, Nat.le_of_ble_eq_true rfl⟩) (mm_pV hKK (mm_rc hKK hT.2.1 mm_le.rf rfl)) rfl rfl hl.1 rfl (lv_room (Nat.le_of_ble_eq_true rfl)) dX8_checkTwo_30 ⟨Nat.le_of_ble_eq_true rfl, Nat.le_of_ble_eq_true rfl⟩) hS (mm_s0 hS) (fun L_30 hS => ?_)
        refine mm_ifneB (tgt := 48) hx hb dX8_checkTwo_33 (by decide) (fun c_33 => ?_) (fun c_33 => ?_)
        · refine lv_iconst (v := nI 0) hx hb dX8_checkTwo_48 (by decide) ?_
          refine mm_top (y := mm_b false) rfl ?_
          refine lv_iconst (v := nI 1) hx hb dX8_checkTwo_49 (by decide) ?_
          refine mm_top (y := mm_b true) rfl ?_
          refine mm_ri (va_runV (As := [.int (mm_b true), .int (mm_b false), .int (mm_b true)]) (rest := []) ⟨hx, hb, hml, hown, hts⟩ (t_check l hT) (cwV 3 hts (lw_V q2841 q2843 qs110 q164 q2844) rfl rfl rfl (by decide +kernel) ⟨Nat.le_of_ble_eq_true rfl, Nat.le_of_ble_eq_true rfl⟩) (mm_pV hKK (mm_rc hKK hT.2.1 mm_le.rf rfl)) rfl rfl hl.1 rfl (lv_room (Nat.le_of_ble_eq_true rfl)) dX8_checkTwo_50 ⟨Nat.le_of_ble_eq_true rfl, Nat.le_of_ble_eq_true rfl⟩) hS (mm_sS hS) (fun H_50 L_50 hT hz_50 hq_50 hS => ?_)
          have hb1 : true = (inR a (s_nv S) && inR b (s_nv S)) := by rw [hina, c_13]; rfl
          have hb2 : false = is2 S a b := by unfold is2; rw [← hb1, hcja, hcjb, c_33]; rfl
          exact mm_zret (v := mm_b (true && false && true)) hx hb hr hlk hS (Nat.le_of_ble_eq_true rfl) (Nat.le_of_ble_eq_true rfl) (mm_nb _) (⟨by rw [ckt hb1 hb2], by rw [← hb1, ← hb2]; exact hT⟩) dX8_checkTwo_53
        · refine lv_aload_n hx hb dX8_checkTwo_36 rfl (lv_at hl 1 rfl) ?_
          refine lv_iload_n hx hb dX8_checkTwo_37 rfl (lv_at hl 3 rfl) ?_
          refine mm_rpu (va_runV (As := [.int (nI jb)]) (rest := [.int (mm_b true), .ref x]) ⟨hx, hb, hml, hown, hts⟩ (t_isGone l hT hR hW (by first | assumption | omega)) (cwV 1 hts (lw_V q2717 q2719 qs82 q164 q2720) rfl rfl rfl (by decide +kernel) ⟨Nat.le_of_ble_eq_true rfl, Nat.le_of_ble_eq_true rfl⟩) (mm_pV hKK (mm_rc hKK hT.2.1 mm_le.rf rfl)) rfl rfl hl.1 rfl (lv_room (Nat.le_of_ble_eq_true rfl)) dX8_checkTwo_38 ⟨Nat.le_of_ble_eq_true rfl, Nat.le_of_ble_eq_true rfl⟩) hS (mm_s0 hS) (fun L_38 hS => ?_)
          refine mm_ifneB (tgt := 48) hx hb dX8_checkTwo_41 (by decide) (fun c_41 => ?_) (fun c_41 => ?_)
          · refine lv_iconst (v := nI 0) hx hb dX8_checkTwo_48 (by decide) ?_
            refine mm_top (y := mm_b false) rfl ?_
            refine lv_iconst (v := nI 1) hx hb dX8_checkTwo_49 (by decide) ?_
            refine mm_top (y := mm_b true) rfl ?_
            refine mm_ri (va_runV (As := [.int (mm_b true), .int (mm_b false), .int (mm_b true)]) (rest := []) ⟨hx, hb, hml, hown, hts⟩ (t_check l hT) (cwV 3 hts (lw_V q2841 q2843 qs110 q164 q2844) rfl rfl rfl (by decide +kernel) ⟨Nat.le_of_ble_eq_true rfl, Nat.le_of_ble_eq_true rfl⟩) (mm_pV hKK (mm_rc hKK hT.2.1 mm_le.rf rfl)) rfl rfl hl.1 rfl (lv_room (Nat.le_of_ble_eq_true rfl)) dX8_checkTwo_50 ⟨Nat.le_of_ble_eq_true rfl, Nat.le_of_ble_eq_true rfl⟩) hS (mm_sS hS) (fun H_50 L_50 hT hz_50 hq_50 hS => ?_)
            have hb1 : true = (inR a (s_nv S) && inR b (s_nv S)) := by rw [hina, c_13]; rfl
            have hb2 : false = is2 S a b := by unfold is2; rw [← hb1, hcja, hcjb, c_33, c_41]; rfl
            exact mm_zret (v := mm_b (true && false && true)) hx hb hr hlk hS (Nat.le_of_ble_eq_true rfl) (Nat.le_of_ble_eq_true rfl) (mm_nb _) (⟨by rw [ckt hb1 hb2], by rw [← hb1, ← hb2]; exact hT⟩) dX8_checkTwo_53
          · refine lv_iconst (v := nI 1) hx hb dX8_checkTwo_44 (by decide) ?_
            refine mm_top (y := mm_b true) rfl ?_
            refine lv_goto (tgt := 49) hx hb dX8_checkTwo_45 (by decide) ?_
            refine lv_iconst (v := nI 1) hx hb dX8_checkTwo_49 (by decide) ?_
            refine mm_top (y := mm_b true) rfl ?_
            refine mm_ri (va_runV (As := [.int (mm_b true), .int (mm_b true), .int (mm_b true)]) (rest := []) ⟨hx, hb, hml, hown, hts⟩ (t_check l hT) (cwV 3 hts (lw_V q2841 q2843 qs110 q164 q2844) rfl rfl rfl (by decide +kernel) ⟨Nat.le_of_ble_eq_true rfl, Nat.le_of_ble_eq_true rfl⟩) (mm_pV hKK (mm_rc hKK hT.2.1 mm_le.rf rfl)) rfl rfl hl.1 rfl (lv_room (Nat.le_of_ble_eq_true rfl)) dX8_checkTwo_50 ⟨Nat.le_of_ble_eq_true rfl, Nat.le_of_ble_eq_true rfl⟩) hS (mm_sS hS) (fun H_50 L_50 hT hz_50 hq_50 hS => ?_)
            have hb1 : true = (inR a (s_nv S) && inR b (s_nv S)) := by rw [hina, c_13]; rfl
            have hb2 : true = is2 S a b := by unfold is2; rw [← hb1, hcja, hcjb, c_33, c_41]; rfl
            exact mm_zret (v := mm_b (true && true && true)) hx hb hr hlk hS (Nat.le_of_ble_eq_true rfl) (Nat.le_of_ble_eq_true rfl) (mm_nb _) (⟨by rw [ckt hb1 hb2], by rw [← hb1, ← hb2]; exact hT⟩) dX8_checkTwo_53
