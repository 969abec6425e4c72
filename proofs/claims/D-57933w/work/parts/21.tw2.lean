/-! the twin: readers (printed by tools/tw2.py) -/
set_option maxRecDepth 100000 in
theorem t_hasRoom (l : Launch) {G : mm_G} {P : mm_H} {H : Heap} {x : Nat} {ad : Nat → Nat} {I : Nat → Int32} {F : Nat → Nat → Int32} {S : sp_S} (hT : TW G x ad I F H) (hR : TR (F 0) S) (hW : WF S) : Mt l yX8_hasRoom (ws_ yX8_hasRoom cX8_hasRoom 1 (some .boolean)) 0 0 0 0 G P [.ref x] H mm_0 (mm_pu (.int (mm_b (decide (s_nv S < 40)))) H) := by
  refine Mt.of (by decide) (Nat.le_of_ble_eq_true rfl) (fun p e s m below meth c ls hx hb hr hlk hml hown hnm hts hKK hsH hl hS => ?_)
  have hl : lv_has ls 1 [(0, .ref x)] := hl
  have hnv := hW.nv
  have hnn := hW.nn
  refine lv_aload_n hx hb dX8_hasRoom_0 rfl (lv_at hl 0 rfl) ?_
  refine tw_geta 0 hx hb hts hown hKK hT rfl rfl (hts _ q2498) dX8_hasRoom_1 ?_
  refine lv_iconst (v := nI 0) hx hb dX8_hasRoom_4 (by decide) ?_
  refine mm_iald (k := 0) hx hb hKK (hT.2.2 0 rfl) mm_le.rf (by show _ < 4210; omega) (by decide) dX8_hasRoom_5 ?_
  refine mm_top (y := nI (s_nv S)) (hR.nv) ?_
  refine lv_bipush (v := nI 40) hx hb dX8_hasRoom_6 (by decide) ?_
  refine mm_icmp_ge (tgt := 15) (by omega) (by omega) hx hb dX8_hasRoom_8 (by decide) (fun c_8 => ?_) (fun c_8 => ?_)
  · refine lv_iconst (v := nI 0) hx hb dX8_hasRoom_15 (by decide) ?_
    exact mm_zret (v := nI 0) hx hb hr hlk hS (Nat.le_of_ble_eq_true rfl) (Nat.le_of_ble_eq_true rfl) (rfl) (⟨by first | exact mm_d1 c_8 | exact mm_d0 (by omega), rfl⟩) dX8_hasRoom_16
  · refine lv_iconst (v := nI 1) hx hb dX8_hasRoom_11 (by decide) ?_
    refine lv_goto (tgt := 16) hx hb dX8_hasRoom_12 (by decide) ?_
    exact mm_zret (v := nI 1) hx hb hr hlk hS (Nat.le_of_ble_eq_true rfl) (Nat.le_of_ble_eq_true rfl) (rfl) (⟨by first | exact mm_d1 c_8 | exact mm_d0 (by omega), rfl⟩) dX8_hasRoom_16
set_option maxRecDepth 100000 in
theorem t_isLive (l : Launch) {G : mm_G} {P : mm_H} {H : Heap} {x : Nat} {ad : Nat → Nat} {I : Nat → Int32} {F : Nat → Nat → Int32} {S : sp_S} {a : Int32} (hT : TW G x ad I F H) (hR : TR (F 0) S) (hW : WF S) : Mt l yX8_isLive (ws_ yX8_isLive cX8_isLive 2 (some .boolean)) 2 50 0 0 G P [.ref x, .int a] H mm_0 (mm_pu (.int (mm_b (isLv S a))) H) := by
  refine Mt.of (by decide) (Nat.le_of_ble_eq_true rfl) (fun p e s m below meth c ls hx hb hr hlk hml hown hnm hts hKK hsH hl hS => ?_)
  have hl : lv_has ls 2 [(0, .ref x), (1, .int a)] := hl
  have hnv := hW.nv
  have hnn := hW.nn
  refine lv_aload_n hx hb dX8_isLive_0 rfl (lv_at hl 0 rfl) ?_
  refine lv_iload_n hx hb dX8_isLive_1 rfl (lv_at hl 1 rfl) ?_
  refine mm_rpu (va_runV (As := [.int a]) (rest := []) ⟨hx, hb, hml, hown, hts⟩ (t_isVersion l hT hR hW) (cwV 1 hts (lw_V q2713 q2715 qs81 q164 q2716) rfl rfl rfl (by decide +kernel) ⟨Nat.le_of_ble_eq_true rfl, Nat.le_of_ble_eq_true rfl⟩) (mm_pV hKK (mm_rc hKK hT.2.1 mm_le.rf rfl)) rfl rfl hl.1 rfl (lv_room (Nat.le_of_ble_eq_true rfl)) dX8_isLive_2 ⟨Nat.le_of_ble_eq_true rfl, Nat.le_of_ble_eq_true rfl⟩) hS (mm_s0 hS) (fun L_2 hS => ?_)
  refine mm_ifeqB (tgt := 20) hx hb dX8_isLive_5 (by decide) (fun c_5 => ?_) (fun c_5 => ?_)
  · refine lv_iconst (v := nI 0) hx hb dX8_isLive_20 (by decide) ?_
    exact mm_zret (v := nI 0) hx hb hr hlk hS (Nat.le_of_ble_eq_true rfl) (Nat.le_of_ble_eq_true rfl) (rfl) (⟨by exact mm_e0 (isLv_f c_5), rfl⟩) dX8_isLive_21
  · obtain ⟨j, hj, rfl, hcj⟩ := inR_t c_5
    refine lv_aload_n hx hb dX8_isLive_8 rfl (lv_at hl 0 rfl) ?_
    refine lv_iload_n hx hb dX8_isLive_9 rfl (lv_at hl 1 rfl) ?_
    refine mm_rpu (va_runV (As := [.int (nI j)]) (rest := []) ⟨hx, hb, hml, hown, hts⟩ (t_isGone l hT hR hW (by first | assumption | omega)) (cwV 1 hts (lw_V q2717 q2719 qs82 q164 q2720) rfl rfl rfl (by decide +kernel) ⟨Nat.le_of_ble_eq_true rfl, Nat.le_of_ble_eq_true rfl⟩) (mm_pV hKK (mm_rc hKK hT.2.1 mm_le.rf rfl)) rfl rfl hl.1 rfl (lv_room (Nat.le_of_ble_eq_true rfl)) dX8_isLive_10 ⟨Nat.le_of_ble_eq_true rfl, Nat.le_of_ble_eq_true rfl⟩) hS (mm_s0 hS) (fun L_10 hS => ?_)
    refine mm_ifneB (tgt := 20) hx hb dX8_isLive_13 (by decide) (fun c_13 => ?_) (fun c_13 => ?_)
    · refine lv_iconst (v := nI 0) hx hb dX8_isLive_20 (by decide) ?_
      exact mm_zret (v := nI 0) hx hb hr hlk hS (Nat.le_of_ble_eq_true rfl) (Nat.le_of_ble_eq_true rfl) (rfl) (⟨by rw [isLv_n hj hnv]; first | exact mm_e1 (by rw [c_13]; rfl) | exact mm_e0 (by rw [c_13]; rfl), rfl⟩) dX8_isLive_21
    · refine lv_iconst (v := nI 1) hx hb dX8_isLive_16 (by decide) ?_
      refine lv_goto (tgt := 21) hx hb dX8_isLive_17 (by decide) ?_
      exact mm_zret (v := nI 1) hx hb hr hlk hS (Nat.le_of_ble_eq_true rfl) (Nat.le_of_ble_eq_true rfl) (rfl) (⟨by rw [isLv_n hj hnv]; first | exact mm_e1 (by rw [c_13]; rfl) | exact mm_e0 (by rw [c_13]; rfl), rfl⟩) dX8_isLive_21
set_option maxRecDepth 100000 in
theorem t_hasElement (l : Launch) {G : mm_G} {P : mm_H} {H : Heap} {x : Nat} {ad : Nat → Nat} {I : Nat → Int32} {F : Nat → Nat → Int32} {S : sp_S} {a b : Int32} (hT : TW G x ad I F H) (hR : TR (F 0) S) (hW : WF S) : Mt l yX8_hasElement (ws_ yX8_hasElement cX8_hasElement 3 (some .boolean)) 2 50 0 0 G P [.ref x, .int a, .int b] H mm_0 (mm_pu (.int (mm_b (hasE S a b))) H) := by
  refine Mt.of (by decide) (Nat.le_of_ble_eq_true rfl) (fun p e s m below meth c ls hx hb hr hlk hml hown hnm hts hKK hsH hl hS => ?_)
  have hl : lv_has ls 3 [(0, .ref x), (1, .int a), (2, .int b)] := hl
  have hnv := hW.nv
  have hnn := hW.nn
  refine lv_aload_n hx hb dX8_hasElement_0 rfl (lv_at hl 0 rfl) ?_
  refine lv_iload_n hx hb dX8_hasElement_1 rfl (lv_at hl 1 rfl) ?_
  refine mm_rpu (va_runV (As := [.int a]) (rest := []) ⟨hx, hb, hml, hown, hts⟩ (t_isVersion l hT hR hW) (cwV 1 hts (lw_V q2713 q2715 qs81 q164 q2716) rfl rfl rfl (by decide +kernel) ⟨Nat.le_of_ble_eq_true rfl, Nat.le_of_ble_eq_true rfl⟩) (mm_pV hKK (mm_rc hKK hT.2.1 mm_le.rf rfl)) rfl rfl hl.1 rfl (lv_room (Nat.le_of_ble_eq_true rfl)) dX8_hasElement_2 ⟨Nat.le_of_ble_eq_true rfl, Nat.le_of_ble_eq_true rfl⟩) hS (mm_s0 hS) (fun L_2 hS => ?_)
  refine mm_ifeqB (tgt := 37) hx hb dX8_hasElement_5 (by decide) (fun c_5 => ?_) (fun c_5 => ?_)
  · refine lv_iconst (v := nI 0) hx hb dX8_hasElement_37 (by decide) ?_
    exact mm_zret (v := nI 0) hx hb hr hlk hS (Nat.le_of_ble_eq_true rfl) (Nat.le_of_ble_eq_true rfl) (rfl) (⟨by exact mm_e0 (hasE_f c_5), rfl⟩) dX8_hasElement_38
  · obtain ⟨j, hj, rfl, hcj⟩ := inR_t c_5
    have hjl := hW.len hj
    refine lv_aload_n hx hb dX8_hasElement_8 rfl (lv_at hl 0 rfl) ?_
    refine lv_iload_n hx hb dX8_hasElement_9 rfl (lv_at hl 1 rfl) ?_
    refine mm_rpu (va_runV (As := [.int (nI j)]) (rest := []) ⟨hx, hb, hml, hown, hts⟩ (t_isGone l hT hR hW (by first | assumption | omega)) (cwV 1 hts (lw_V q2717 q2719 qs82 q164 q2720) rfl rfl rfl (by decide +kernel) ⟨Nat.le_of_ble_eq_true rfl, Nat.le_of_ble_eq_true rfl⟩) (mm_pV hKK (mm_rc hKK hT.2.1 mm_le.rf rfl)) rfl rfl hl.1 rfl (lv_room (Nat.le_of_ble_eq_true rfl)) dX8_hasElement_10 ⟨Nat.le_of_ble_eq_true rfl, Nat.le_of_ble_eq_true rfl⟩) hS (mm_s0 hS) (fun L_10 hS => ?_)
    refine mm_ifneB (tgt := 33) hx hb dX8_hasElement_13 (by decide) (fun c_13 => ?_) (fun c_13 => ?_)
    · refine lv_iconst (v := nI 1) hx hb dX8_hasElement_33 (by decide) ?_
      refine lv_goto (tgt := 38) hx hb dX8_hasElement_34 (by decide) ?_
      exact mm_zret (v := nI 1) hx hb hr hlk hS (Nat.le_of_ble_eq_true rfl) (Nat.le_of_ble_eq_true rfl) (rfl) (⟨by rw [hasE_n hj hnv]; first | exact mm_e1 (by rw [c_13]; rfl) | exact mm_e1 (by rw [c_13, c_30]; rfl) | exact mm_e0 (by rw [c_13, c_30]; rfl), rfl⟩) dX8_hasElement_38
    · refine lv_iload_n hx hb dX8_hasElement_16 rfl (lv_at hl 2 rfl) ?_
      refine lv_i2l (v := b.toInt64) hx hb dX8_hasElement_17 rfl ?_
      refine lv_lconst (v := 0) hx hb dX8_hasElement_18 (by decide) ?_
      refine lv_aload_n hx hb dX8_hasElement_19 rfl (lv_at hl 0 rfl) ?_
      refine lv_iload_n hx hb dX8_hasElement_20 rfl (lv_at hl 1 rfl) ?_
      refine mm_rpu (va_runV (As := [.int (nI j)]) (rest := [.long 0, .long b.toInt64]) ⟨hx, hb, hml, hown, hts⟩ (t_lengthOf l hT hR hW (by first | assumption | omega)) (cwV 1 hts (lw_V q2487 q2489 qs60 q164 q2490) rfl rfl rfl (by decide +kernel) ⟨Nat.le_of_ble_eq_true rfl, Nat.le_of_ble_eq_true rfl⟩) (mm_pV hKK (mm_rc hKK hT.2.1 mm_le.rf rfl)) rfl rfl hl.1 rfl (lv_room (Nat.le_of_ble_eq_true rfl)) dX8_hasElement_21 ⟨Nat.le_of_ble_eq_true rfl, Nat.le_of_ble_eq_true rfl⟩) hS (mm_s0 hS) (fun L_21 hS => ?_)
      refine lv_iconst (v := nI 1) hx hb dX8_hasElement_24 (by decide) ?_
      refine lv_isub hx hb dX8_hasElement_25 ?_
      refine lv_i2l (v := ((nI (s_len S j)) - (nI 1)).toInt64) hx hb dX8_hasElement_26 rfl ?_
      refine mm_rpu (va_runS (As := [.long b.toInt64, .long 0, .long (((nI (s_len S j)) - (nI 1)).toInt64)]) (rest := []) ⟨hx, hb, hml, hown, hts⟩ (t_isWithin l ) (va_cwS 3 hts (lw_S q2599 q2600 q164 q2601) rfl rfl rfl (by decide +kernel) ⟨Nat.le_of_ble_eq_true rfl, Nat.le_of_ble_eq_true rfl⟩) (mm_pS hKK) rfl rfl hl.1 rfl (lv_room (Nat.le_of_ble_eq_true rfl)) dX8_hasElement_27 ⟨Nat.le_of_ble_eq_true rfl, Nat.le_of_ble_eq_true rfl⟩) hS (mm_s0 hS) (fun L_27 hS => ?_)
      refine mm_top (y := mm_b (inR b (s_len S j))) (congrArg mm_b (w_inR b (n := s_len S j) (by omega))) ?_
      refine mm_ifeqB (tgt := 37) hx hb dX8_hasElement_30 (by decide) (fun c_30 => ?_) (fun c_30 => ?_)
      · refine lv_iconst (v := nI 0) hx hb dX8_hasElement_37 (by decide) ?_
        exact mm_zret (v := nI 0) hx hb hr hlk hS (Nat.le_of_ble_eq_true rfl) (Nat.le_of_ble_eq_true rfl) (rfl) (⟨by rw [hasE_n hj hnv]; first | exact mm_e1 (by rw [c_13]; rfl) | exact mm_e1 (by rw [c_13, c_30]; rfl) | exact mm_e0 (by rw [c_13, c_30]; rfl), rfl⟩) dX8_hasElement_38
      · refine lv_iconst (v := nI 1) hx hb dX8_hasElement_33 (by decide) ?_
        refine lv_goto (tgt := 38) hx hb dX8_hasElement_34 (by decide) ?_
        exact mm_zret (v := nI 1) hx hb hr hlk hS (Nat.le_of_ble_eq_true rfl) (Nat.le_of_ble_eq_true rfl) (rfl) (⟨by rw [hasE_n hj hnv]; first | exact mm_e1 (by rw [c_13]; rfl) | exact mm_e1 (by rw [c_13, c_30]; rfl) | exact mm_e0 (by rw [c_13, c_30]; rfl), rfl⟩) dX8_hasElement_38
set_option maxRecDepth 100000 in
theorem t_differAt (l : Launch) {G : mm_G} {P : mm_H} {H : Heap} {x : Nat} {ad : Nat → Nat} {I : Nat → Int32} {F : Nat → Nat → Int32} {S : sp_S} {a b i : Nat} (hT : TW G x ad I F H) (hR : TR (F 0) S) (hW : WF S) (ha : a < s_nv S) (hb9 : b < s_nv S) (hi : i < 64) : Mt l yX8_differAt (ws_ yX8_differAt cX8_differAt 6 (some .boolean)) 2 60 0 0 G P [.ref x, .int (nI a), .int (nI b), .int (nI i)] H mm_0 (mm_pu (.int (mm_b (dfA S a b i))) H) := by
  refine Mt.of (by decide) (Nat.le_of_ble_eq_true rfl) (fun p e s m below meth c ls hx hb hr hlk hml hown hnm hts hKK hsH hl hS => ?_)
  have hl : lv_has ls 6 [(0, .ref x), (1, .int (nI a)), (2, .int (nI b)), (3, .int (nI i))] := hl
  have hnv := hW.nv
  have hnn := hW.nn
  have hla := hW.len ha
  have hlb := hW.len hb9
  refine lv_iload_n hx hb dX8_differAt_0 rfl (lv_at hl 3 rfl) ?_
  refine lv_aload_n hx hb dX8_differAt_1 rfl (lv_at hl 0 rfl) ?_
  refine lv_iload_n hx hb dX8_differAt_2 rfl (lv_at hl 1 rfl) ?_
  refine mm_rpu (va_runV (As := [.int (nI a)]) (rest := [.int (nI i)]) ⟨hx, hb, hml, hown, hts⟩ (t_lengthOf l hT hR hW (by first | assumption | omega)) (cwV 1 hts (lw_V q2487 q2489 qs60 q164 q2490) rfl rfl rfl (by decide +kernel) ⟨Nat.le_of_ble_eq_true rfl, Nat.le_of_ble_eq_true rfl⟩) (mm_pV hKK (mm_rc hKK hT.2.1 mm_le.rf rfl)) rfl rfl hl.1 rfl (lv_room (Nat.le_of_ble_eq_true rfl)) dX8_differAt_3 ⟨Nat.le_of_ble_eq_true rfl, Nat.le_of_ble_eq_true rfl⟩) hS (mm_s0 hS) (fun L_3 hS => ?_)
  refine mm_icmp_ge (tgt := 13) (by omega) (by omega) hx hb dX8_differAt_6 (by decide) (fun c_6 => ?_) (fun c_6 => ?_)
  · refine lv_iconst (v := nI 0) hx hb dX8_differAt_13 (by decide) ?_
    refine lv_istore (lv' := [(4, .int (nI 0)), (0, .ref x), (1, .int (nI a)), (2, .int (nI b)), (3, .int (nI i))]) hx hb dX8_differAt_14 hl (by decide) rfl (fun ls hl => ?_)
    refine lv_iload_n hx hb dX8_differAt_16 rfl (lv_at hl 4 rfl) ?_
    refine lv_aload_n hx hb dX8_differAt_17 rfl (lv_at hl 1 rfl) ?_
    refine lv_iload_n hx hb dX8_differAt_18 rfl (lv_at hl 3 rfl) ?_
    refine mm_rpu (va_runV (As := [.int (nI b)]) (rest := [.int (nI i)]) ⟨hx, hb, hml, hown, hts⟩ (t_lengthOf l hT hR hW (by first | assumption | omega)) (cwV 1 hts (lw_V q2487 q2489 qs60 q164 q2490) rfl rfl rfl (by decide +kernel) ⟨Nat.le_of_ble_eq_true rfl, Nat.le_of_ble_eq_true rfl⟩) (mm_pV hKK (mm_rc hKK hT.2.1 mm_le.rf rfl)) rfl rfl hl.1 rfl (lv_room (Nat.le_of_ble_eq_true rfl)) dX8_differAt_19 ⟨Nat.le_of_ble_eq_true rfl, Nat.le_of_ble_eq_true rfl⟩) hS (mm_s0 hS) (fun L_19 hS => ?_)
    refine mm_icmp_ge (tgt := 29) (by omega) (by omega) hx hb dX8_differAt_22 (by decide) (fun c_22 => ?_) (fun c_22 => ?_)
    · refine lv_iconst (v := nI 0) hx hb dX8_differAt_29 (by decide) ?_
      refine lv_istore (lv' := [(5, .int (nI 0)), (4, .int (nI 0)), (0, .ref x), (1, .int (nI a)), (2, .int (nI b)), (3, .int (nI i))]) hx hb dX8_differAt_30 hl (by decide) rfl (fun ls hl => ?_)
      refine lv_iload hx hb dX8_differAt_32 (lv_at hl 1 rfl) ?_
      refine lv_iload hx hb dX8_differAt_34 (lv_at hl 0 rfl) ?_
      refine mm_icmp_eq (tgt := 41) (by omega) (by omega) hx hb dX8_differAt_36 (by decide) (fun c_36 => ?_) (fun c_36 => ?_)
      · refine lv_iload hx hb dX8_differAt_41 (lv_at hl 1 rfl) ?_
        refine mm_if_eq (tgt := 65) (by omega) hx hb dX8_differAt_43 (by decide) (fun c_43 => ?_) (fun c_43 => ?_)
        · refine lv_iconst (v := nI 0) hx hb dX8_differAt_65 (by decide) ?_
          exact mm_zret (v := nI 0) hx hb hr hlk hS (Nat.le_of_ble_eq_true rfl) (Nat.le_of_ble_eq_true rfl) (rfl) (⟨by first | exact mm_e1 (dfA_1 (by omega)) | exact mm_e0 (dfA_3 (by omega) (by omega)) | exact mm_e0 (by rw [dfA_2 (by omega) (by omega), decide_eq_true c_58]; rfl) | exact mm_e1 (by rw [dfA_2 (by omega) (by omega), decide_eq_false c_58]; rfl), rfl⟩) dX8_differAt_66
        · exact absurd c_43 (by decide)
      · exact absurd c_36 (by decide)
    · refine lv_iconst (v := nI 1) hx hb dX8_differAt_25 (by decide) ?_
      refine lv_goto (tgt := 30) hx hb dX8_differAt_26 (by decide) ?_
      refine lv_istore (lv' := [(5, .int (nI 1)), (4, .int (nI 0)), (0, .ref x), (1, .int (nI a)), (2, .int (nI b)), (3, .int (nI i))]) hx hb dX8_differAt_30 hl (by decide) rfl (fun ls hl => ?_)
      refine lv_iload hx hb dX8_differAt_32 (lv_at hl 1 rfl) ?_
      refine lv_iload hx hb dX8_differAt_34 (lv_at hl 0 rfl) ?_
      refine mm_icmp_eq (tgt := 41) (by omega) (by omega) hx hb dX8_differAt_36 (by decide) (fun c_36 => ?_) (fun c_36 => ?_)
      · exact absurd c_36 (by decide)
      · refine lv_iconst (v := nI 1) hx hb dX8_differAt_39 (by decide) ?_
        exact mm_zret (v := nI 1) hx hb hr hlk hS (Nat.le_of_ble_eq_true rfl) (Nat.le_of_ble_eq_true rfl) (rfl) (⟨by first | exact mm_e1 (dfA_1 (by omega)) | exact mm_e0 (dfA_3 (by omega) (by omega)) | exact mm_e0 (by rw [dfA_2 (by omega) (by omega), decide_eq_true c_58]; rfl) | exact mm_e1 (by rw [dfA_2 (by omega) (by omega), decide_eq_false c_58]; rfl), rfl⟩) dX8_differAt_40
  · refine lv_iconst (v := nI 1) hx hb dX8_differAt_9 (by decide) ?_
    refine lv_goto (tgt := 14) hx hb dX8_differAt_10 (by decide) ?_
    refine lv_istore (lv' := [(4, .int (nI 1)), (0, .ref x), (1, .int (nI a)), (2, .int (nI b)), (3, .int (nI i))]) hx hb dX8_differAt_14 hl (by decide) rfl (fun ls hl => ?_)
    refine lv_iload_n hx hb dX8_differAt_16 rfl (lv_at hl 4 rfl) ?_
    refine lv_aload_n hx hb dX8_differAt_17 rfl (lv_at hl 1 rfl) ?_
    refine lv_iload_n hx hb dX8_differAt_18 rfl (lv_at hl 3 rfl) ?_
    refine mm_rpu (va_runV (As := [.int (nI b)]) (rest := [.int (nI i)]) ⟨hx, hb, hml, hown, hts⟩ (t_lengthOf l hT hR hW (by first | assumption | omega)) (cwV 1 hts (lw_V q2487 q2489 qs60 q164 q2490) rfl rfl rfl (by decide +kernel) ⟨Nat.le_of_ble_eq_true rfl, Nat.le_of_ble_eq_true rfl⟩) (mm_pV hKK (mm_rc hKK hT.2.1 mm_le.rf rfl)) rfl rfl hl.1 rfl (lv_room (Nat.le_of_ble_eq_true rfl)) dX8_differAt_19 ⟨Nat.le_of_ble_eq_true rfl, Nat.le_of_ble_eq_true rfl⟩) hS (mm_s0 hS) (fun L_19 hS => ?_)
    refine mm_icmp_ge (tgt := 29) (by omega) (by omega) hx hb dX8_differAt_22 (by decide) (fun c_22 => ?_) (fun c_22 => ?_)
    · refine lv_iconst (v := nI 0) hx hb dX8_differAt_29 (by decide) ?_
      refine lv_istore (lv' := [(5, .int (nI 0)), (4, .int (nI 1)), (0, .ref x), (1, .int (nI a)), (2, .int (nI b)), (3, .int (nI i))]) hx hb dX8_differAt_30 hl (by decide) rfl (fun ls hl => ?_)
      refine lv_iload hx hb dX8_differAt_32 (lv_at hl 1 rfl) ?_
      refine lv_iload hx hb dX8_differAt_34 (lv_at hl 0 rfl) ?_
      refine mm_icmp_eq (tgt := 41) (by omega) (by omega) hx hb dX8_differAt_36 (by decide) (fun c_36 => ?_) (fun c_36 => ?_)
      · exact absurd c_36 (by decide)
      · refine lv_iconst (v := nI 1) hx hb dX8_differAt_39 (by decide) ?_
        exact mm_zret (v := nI 1) hx hb hr hlk hS (Nat.le_of_ble_eq_true rfl) (Nat.le_of_ble_eq_true rfl) (rfl) (⟨by first | exact mm_e1 (dfA_1 (by omega)) | exact mm_e0 (dfA_3 (by omega) (by omega)) | exact mm_e0 (by rw [dfA_2 (by omega) (by omega), decide_eq_true c_58]; rfl) | exact mm_e1 (by rw [dfA_2 (by omega) (by omega), decide_eq_false c_58]; rfl), rfl⟩) dX8_differAt_40
    · refine lv_iconst (v := nI 1) hx hb dX8_differAt_25 (by decide) ?_
      refine lv_goto (tgt := 30) hx hb dX8_differAt_26 (by decide) ?_
      refine lv_istore (lv' := [(5, .int (nI 1)), (4, .int (nI 1)), (0, .ref x), (1, .int (nI a)), (2, .int (nI b)), (3, .int (nI i))]) hx hb dX8_differAt_30 hl (by decide) rfl (fun ls hl => ?_)
      refine lv_iload hx hb dX8_differAt_32 (lv_at hl 1 rfl) ?_
      refine lv_iload hx hb dX8_differAt_34 (lv_at hl 0 rfl) ?_
      refine mm_icmp_eq (tgt := 41) (by omega) (by omega) hx hb dX8_differAt_36 (by decide) (fun c_36 => ?_) (fun c_36 => ?_)
      · refine lv_iload hx hb dX8_differAt_41 (lv_at hl 1 rfl) ?_
        refine mm_if_eq (tgt := 65) (by omega) hx hb dX8_differAt_43 (by decide) (fun c_43 => ?_) (fun c_43 => ?_)
        · exact absurd c_43 (by decide)
        · refine lv_aload_n hx hb dX8_differAt_46 rfl (lv_at hl 2 rfl) ?_
          refine lv_iload_n hx hb dX8_differAt_47 rfl (lv_at hl 3 rfl) ?_
          refine lv_iload_n hx hb dX8_differAt_48 rfl (lv_at hl 5 rfl) ?_
          refine mm_rpu (va_runV (As := [.int (nI a), .int (nI i)]) (rest := []) ⟨hx, hb, hml, hown, hts⟩ (t_element l hT hR hW (by first | assumption | omega) (by first | assumption | omega)) (cwV 2 hts (lw_V q2494 q2496 qs61 q164 q2497) rfl rfl rfl (by decide +kernel) ⟨Nat.le_of_ble_eq_true rfl, Nat.le_of_ble_eq_true rfl⟩) (mm_pV hKK (mm_rc hKK hT.2.1 mm_le.rf rfl)) rfl rfl hl.1 rfl (lv_room (Nat.le_of_ble_eq_true rfl)) dX8_differAt_49 ⟨Nat.le_of_ble_eq_true rfl, Nat.le_of_ble_eq_true rfl⟩) hS (mm_s0 hS) (fun L_49 hS => ?_)
          refine lv_aload_n hx hb dX8_differAt_52 rfl (lv_at hl 2 rfl) ?_
          refine lv_iload_n hx hb dX8_differAt_53 rfl (lv_at hl 4 rfl) ?_
          refine lv_iload_n hx hb dX8_differAt_54 rfl (lv_at hl 5 rfl) ?_
          refine mm_rpu (va_runV (As := [.int (nI b), .int (nI i)]) (rest := [.int (s_els S a i)]) ⟨hx, hb, hml, hown, hts⟩ (t_element l hT hR hW (by first | assumption | omega) (by first | assumption | omega)) (cwV 2 hts (lw_V q2494 q2496 qs61 q164 q2497) rfl rfl rfl (by decide +kernel) ⟨Nat.le_of_ble_eq_true rfl, Nat.le_of_ble_eq_true rfl⟩) (mm_pV hKK (mm_rc hKK hT.2.1 mm_le.rf rfl)) rfl rfl hl.1 rfl (lv_room (Nat.le_of_ble_eq_true rfl)) dX8_differAt_55 ⟨Nat.le_of_ble_eq_true rfl, Nat.le_of_ble_eq_true rfl⟩) hS (mm_s0 hS) (fun L_55 hS => ?_)
          refine lv_icmp_eq (tgt := 65) hx hb dX8_differAt_58 (by decide) (fun c_58 => ?_) (fun c_58 => ?_)
          · refine lv_iconst (v := nI 0) hx hb dX8_differAt_65 (by decide) ?_
            exact mm_zret (v := nI 0) hx hb hr hlk hS (Nat.le_of_ble_eq_true rfl) (Nat.le_of_ble_eq_true rfl) (rfl) (⟨by first | exact mm_e1 (dfA_1 (by omega)) | exact mm_e0 (dfA_3 (by omega) (by omega)) | exact mm_e0 (by rw [dfA_2 (by omega) (by omega), decide_eq_true c_58]; rfl) | exact mm_e1 (by rw [dfA_2 (by omega) (by omega), decide_eq_false c_58]; rfl), rfl⟩) dX8_differAt_66
          · refine lv_iconst (v := nI 1) hx hb dX8_differAt_61 (by decide) ?_
            refine lv_goto (tgt := 66) hx hb dX8_differAt_62 (by decide) ?_
            exact mm_zret (v := nI 1) hx hb hr hlk hS (Nat.le_of_ble_eq_true rfl) (Nat.le_of_ble_eq_true rfl) (rfl) (⟨by first | exact mm_e1 (dfA_1 (by omega)) | exact mm_e0 (dfA_3 (by omega) (by omega)) | exact mm_e0 (by rw [dfA_2 (by omega) (by omega), decide_eq_true c_58]; rfl) | exact mm_e1 (by rw [dfA_2 (by omega) (by omega), decide_eq_false c_58]; rfl), rfl⟩) dX8_differAt_66
      · exact absurd c_36 (by decide)
set_option maxRecDepth 100000 in
theorem t_depth (l : Launch) {G : mm_G} {P : mm_H} {H : Heap} {x : Nat} {ad : Nat → Nat} {I : Nat → Int32} {F : Nat → Nat → Int32} {S : sp_S} {k : Nat} (hT : TW G x ad I F H) (hR : TR (F 0) S) (hW : WF S) (hk : k < s_nv S) : Mt l yX8_depth (ws_ yX8_depth cX8_depth 4 (some .int)) 1 27 0 0 G P [.ref x, .int (nI k)] H mm_0 (mm_pu (.int (nI (dep S k))) H) := by
  refine Mt.of (by decide) (Nat.le_of_ble_eq_true rfl) (fun p e s m below meth c ls hx hb hr hlk hml hown hnm hts hKK hsH hl hS => ?_)
  have hl : lv_has ls 4 [(0, .ref x), (1, .int (nI k))] := hl
  have hnv := hW.nv
  have hnn := hW.nn
  refine lv_iconst (v := nI 0) hx hb dX8_depth_0 (by decide) ?_
  refine lv_istore_n (lv' := [(2, .int (nI 0)), (0, .ref x), (1, .int (nI k))]) hx hb dX8_depth_1 rfl hl (by decide) rfl (fun ls hl => ?_)
  refine lv_aload_n hx hb dX8_depth_2 rfl (lv_at hl 1 rfl) ?_
  refine tw_geta 0 hx hb hts hown hKK hT rfl rfl (hts _ q2498) dX8_depth_3 ?_
  refine lv_iload_n hx hb dX8_depth_6 rfl (lv_at hl 2 rfl) ?_
  refine mm_rpu (va_runS (As := [.int (nI k)]) (rest := [.ref (ad 0)]) ⟨hx, hb, hml, hown, hts⟩ (t_v l ) (va_cwS 1 hts (lw_S q2478 q2479 q164 q2480) rfl rfl rfl (by decide +kernel) ⟨Nat.le_of_ble_eq_true rfl, Nat.le_of_ble_eq_true rfl⟩) (mm_pS hKK) rfl rfl hl.1 rfl (lv_room (Nat.le_of_ble_eq_true rfl)) dX8_depth_7 ⟨Nat.le_of_ble_eq_true rfl, Nat.le_of_ble_eq_true rfl⟩) hS (mm_s0 hS) (fun L_7 hS => ?_)
  refine lv_iconst (v := nI 3) hx hb dX8_depth_10 (by decide) ?_
  refine mm_iadd hx hb dX8_depth_11 ?_
  refine mm_iald (k := (10 + 6 * k + 3)) hx hb hKK (hT.2.2 0 rfl) mm_le.rf (by show _ < 4210; omega) (by decide) dX8_depth_12 ?_
  refine mm_top (y := oI (s_par S k)) (hR.par hk) ?_
  refine lv_istore_n (lv' := [(3, .int (oI (s_par S k))), (2, .int (nI 0)), (0, .ref x), (1, .int (nI k))]) hx hb dX8_depth_13 rfl hl (by decide) rfl (fun ls hl => ?_)
  have lp_14 : ∀ (fu : Nat) (d : Nat) (o : Option Nat) (n : Nat)  (L : List Loc) (ls : Array Slot), n < fu → (∀ p, o = some p → p < n ∧ p < s_nv S) → (d + dO S n o = dep S k) → (d + n ≤ 80) → lv_has ls 4 [(2, .int (nI d)), (3, .int (oI o)), (0, .ref x), (1, .int (nI k))] → va_S (mm_A mm_0 H) H H L → W p l e (mm_rm 1 27 0 0) s m ([.ref x, .int (nI k)] : List Value).toArray below meth c H L 0 0 (MQ below (mm_Qc H mm_0 (mm_pu (.int (nI (dep S k))) H)) ([.ref x, .int (nI k)] : List Value).toArray s 0 0 (mm_A mm_0 H)) (F0 m 14 ls []) := by
    intro fu; induction fu with
    | zero => intro d o n L ls hfu; exact absurd hfu (Nat.not_lt_zero _)
    | succ fu ih =>
      intro d o n L ls hfu ho hd hdb hl  hS
      have ih_14 := ih
      refine lv_iload_n hx hb dX8_depth_14 rfl (lv_at hl 1 rfl) ?_
      refine lv_iconst (v := (-1)) hx hb dX8_depth_15 (by decide) ?_
      refine mm_icmp_eqM (tgt := 37) (fun r hr => by have := (ho r hr).2; omega) hx hb dX8_depth_16 (by decide) (fun c_16 => ?_) (fun r_16 c_16 => ?_)
      · refine lv_iload_n hx hb dX8_depth_37 rfl (lv_at hl 0 rfl) ?_
        exact mm_iret (v := nI d) hx hb hr hlk hS (Nat.le_of_ble_eq_true rfl) (Nat.le_of_ble_eq_true rfl) (⟨by rw [← hd, c_16]; cases n <;> rfl, rfl⟩) dX8_depth_38
      · have hn1 := (ho r_16 c_16).1
        refine lv_iinc (v := nI (d + 1)) (lv' := [(2, .int (nI (d + 1))), (3, .int (oI o)), (0, .ref x), (1, .int (nI k))]) hx hb dX8_depth_19 hl (k := 0) rfl (nI_add _ _) (by decide) rfl (fun ls hl => ?_)
        refine lv_aload_n hx hb dX8_depth_22 rfl (lv_at hl 2 rfl) ?_
        refine tw_geta 0 hx hb hts hown hKK hT rfl rfl (hts _ q2498) dX8_depth_23 ?_
        refine lv_iload_n hx hb dX8_depth_26 rfl (lv_at hl 1 rfl) ?_
        refine mm_top (y := nI r_16) (oI_some c_16) ?_
        refine mm_rpu (va_runS (As := [.int (nI r_16)]) (rest := [.ref (ad 0)]) ⟨hx, hb, hml, hown, hts⟩ (t_v l ) (va_cwS 1 hts (lw_S q2478 q2479 q164 q2480) rfl rfl rfl (by decide +kernel) ⟨Nat.le_of_ble_eq_true rfl, Nat.le_of_ble_eq_true rfl⟩) (mm_pS hKK) rfl rfl hl.1 rfl (lv_room (Nat.le_of_ble_eq_true rfl)) dX8_depth_27 ⟨Nat.le_of_ble_eq_true rfl, Nat.le_of_ble_eq_true rfl⟩) hS (mm_s0 hS) (fun L_27 hS => ?_)
        refine lv_iconst (v := nI 3) hx hb dX8_depth_30 (by decide) ?_
        refine mm_iadd hx hb dX8_depth_31 ?_
        refine mm_iald (k := (10 + 6 * r_16 + 3)) hx hb hKK (hT.2.2 0 rfl) mm_le.rf (by show _ < 4210; have := (ho r_16 c_16).2; omega) (by decide) dX8_depth_32 ?_
        refine mm_top (y := oI (s_par S r_16)) (hR.par (ho r_16 c_16).2) ?_
        refine lv_istore_n (lv' := [(3, .int (oI (s_par S r_16))), (2, .int (nI (d + 1))), (0, .ref x), (1, .int (nI k))]) hx hb dX8_depth_33 rfl hl (by decide) rfl (fun ls hl => ?_)
        refine lv_goto (tgt := 14) hx hb dX8_depth_34 (by decide) ?_
        exact ih_14 (d + 1) (s_par S r_16) (n - 1) _ _ (by omega) (fun p hp => ⟨by have := hW.par (ho r_16 c_16).2 hp; have := (ho r_16 c_16).1; omega, by have := hW.par (ho r_16 c_16).2 hp; have := (ho r_16 c_16).2; omega⟩) (by obtain ⟨n, rfl⟩ : ∃ z, n = z + 1 := ⟨n - 1, by have := (ho r_16 c_16).1; omega⟩; rw [c_16] at hd; simp only [dO] at hd; rw [Nat.add_sub_cancel]; omega) (by have := (ho r_16 c_16).1; omega) (lv_sub hl [1, 0, 2, 3] rfl)  hS
  exact lp_14 _ 0 (s_par S k) 40 _ _ (Nat.lt_succ_self _) (fun p hp => ⟨by have := hW.par hk hp; omega, by have := hW.par hk hp; omega⟩) (Nat.zero_add _) (by omega) (lv_sub hl [1, 0, 2, 3] rfl)  hS
set_option maxRecDepth 100000 in
theorem t_elementsUnder (l : Launch) {G : mm_G} {P : mm_H} {H : Heap} {x : Nat} {ad : Nat → Nat} {I : Nat → Int32} {F : Nat → Nat → Int32} {S : sp_S} (h : Nat) {k : Nat} (hT : TW G x ad I F H) (hR : TR (F 0) S) (hW : WF S) (hg : Hgt S h k) : Mt l yX8_elementsUnder (ws_ yX8_elementsUnder cX8_elementsUnder 4 (some .int)) ((h + 1)) ((h * 60)) 0 0 G P [.ref x, .int (nI k)] H mm_0 (mm_pu (.int (nI (eU S h k))) H) := by
  induction h generalizing k with
  | zero => exact hg.elim
  | succ h ihr =>
    refine Mt.of (by decide) (Nat.le_of_ble_eq_true rfl) (fun p e s m below meth c ls hx hb hr hlk hml hown hnm hts hKK hsH hl hS => ?_)
    have hl : lv_has ls 4 [(0, .ref x), (1, .int (nI k))] := hl
    have hnv := hW.nv
    have hnn := hW.nn
    have hk := hg.1
    have hc := hW.cnt hk
    refine lv_aload_n hx hb dX8_elementsUnder_0 rfl (lv_at hl 0 rfl) ?_
    refine lv_iload_n hx hb dX8_elementsUnder_1 rfl (lv_at hl 1 rfl) ?_
    refine mm_rpu (va_runV (As := [.int (nI k)]) (rest := []) ⟨hx, hb, hml, hown, hts⟩ (t_isLeafNode l hT hR hW (by first | assumption | omega)) (cwV 1 hts (lw_V q2793 q2795 qs101 q164 q2796) rfl rfl rfl (by decide +kernel) ⟨by simp only [mm_rm]; omega, by simp only [mm_rm]; omega⟩) (mm_pV hKK (mm_rc hKK hT.2.1 mm_le.rf rfl)) rfl rfl hl.1 rfl (lv_room (Nat.le_of_ble_eq_true rfl)) dX8_elementsUnder_2 ⟨Nat.le_of_ble_eq_true rfl, Nat.le_of_ble_eq_true rfl⟩) hS (mm_s0 hS) (fun L_2 hS => ?_)
    refine mm_ifeqB (tgt := 14) hx hb dX8_elementsUnder_5 (by decide) (fun c_5 => ?_) (fun c_5 => ?_)
    · refine lv_iconst (v := nI 0) hx hb dX8_elementsUnder_14 (by decide) ?_
      refine lv_istore_n (lv' := [(2, .int (nI 0)), (0, .ref x), (1, .int (nI k))]) hx hb dX8_elementsUnder_15 rfl hl (by decide) rfl (fun ls hl => ?_)
      refine lv_iconst (v := nI 0) hx hb dX8_elementsUnder_16 (by decide) ?_
      refine lv_istore_n (lv' := [(3, .int (nI 0)), (2, .int (nI 0)), (0, .ref x), (1, .int (nI k))]) hx hb dX8_elementsUnder_17 rfl hl (by decide) rfl (fun ls hl => ?_)
      have lp_18 : ∀ (fu : Nat) (i : Nat)  (L : List Loc) (ls : Array Slot), s_cnt S k - i < fu → (i ≤ s_cnt S k) → lv_has ls 4 [(2, .int (nI (sumN i (fun i => eU S h (s_chd S k i))))), (3, .int (nI i)), (0, .ref x), (1, .int (nI k))] → va_S (mm_A mm_0 H) H H L → W p l e (mm_rm (((h + 1) + 1)) (((h + 1) * 60)) 0 0) s m ([.ref x, .int (nI k)] : List Value).toArray below meth c H L 0 0 (MQ below (mm_Qc H mm_0 (mm_pu (.int (nI (eU S (h + 1) k))) H)) ([.ref x, .int (nI k)] : List Value).toArray s 0 0 (mm_A mm_0 H)) (F0 m 18 ls []) := by
        intro fu; induction fu with
        | zero => intro i L ls hfu; exact absurd hfu (Nat.not_lt_zero _)
        | succ fu ih =>
          intro i L ls hfu hi hl  hS
          have ih_18 := ih
          refine lv_iload_n hx hb dX8_elementsUnder_18 rfl (lv_at hl 1 rfl) ?_
          refine lv_aload_n hx hb dX8_elementsUnder_19 rfl (lv_at hl 2 rfl) ?_
          refine lv_iload_n hx hb dX8_elementsUnder_20 rfl (lv_at hl 3 rfl) ?_
          refine mm_rpu (va_runV (As := [.int (nI k)]) (rest := [.int (nI i)]) ⟨hx, hb, hml, hown, hts⟩ (t_countOf l hT hR hW (by first | assumption | omega)) (cwV 1 hts (lw_V q2745 q2747 qs89 q164 q2748) rfl rfl rfl (by decide +kernel) ⟨by simp only [mm_rm]; omega, by simp only [mm_rm]; omega⟩) (mm_pV hKK (mm_rc hKK hT.2.1 mm_le.rf rfl)) rfl rfl hl.1 rfl (lv_room (Nat.le_of_ble_eq_true rfl)) dX8_elementsUnder_21 ⟨Nat.le_of_ble_eq_true rfl, Nat.le_of_ble_eq_true rfl⟩) hS (mm_s0 hS) (fun L_21 hS => ?_)
          refine mm_icmp_ge (tgt := 46) (by omega) (by omega) hx hb dX8_elementsUnder_24 (by decide) (fun c_24 => ?_) (fun c_24 => ?_)
          · refine lv_iload_n hx hb dX8_elementsUnder_46 rfl (lv_at hl 0 rfl) ?_
            exact mm_iret (v := nI (sumN i (fun i => eU S h (s_chd S k i)))) hx hb hr hlk hS (Nat.le_of_ble_eq_true rfl) (Nat.le_of_ble_eq_true rfl) (⟨by simp only [eU]; rw [if_neg (by rw [c_5]; decide), show s_cnt S k = i by omega], rfl⟩) dX8_elementsUnder_47
          · have hi9 : i < s_cnt S k := c_24
            refine lv_iload_n hx hb dX8_elementsUnder_27 rfl (lv_at hl 0 rfl) ?_
            refine lv_aload_n hx hb dX8_elementsUnder_28 rfl (lv_at hl 2 rfl) ?_
            refine lv_aload_n hx hb dX8_elementsUnder_29 rfl (lv_at hl 2 rfl) ?_
            refine lv_iload_n hx hb dX8_elementsUnder_30 rfl (lv_at hl 3 rfl) ?_
            refine lv_iload_n hx hb dX8_elementsUnder_31 rfl (lv_at hl 1 rfl) ?_
            refine mm_rpu (va_runV (As := [.int (nI k), .int (nI i)]) (rest := [.ref x, .int (nI (sumN i (fun i => eU S h (s_chd S k i))))]) ⟨hx, hb, hml, hown, hts⟩ (t_entry l hT hR hW (by first | assumption | omega) (by first | assumption | omega)) (cwV 2 hts (lw_V q2753 q2755 qs91 q164 q2756) rfl rfl rfl (by decide +kernel) ⟨by simp only [mm_rm]; omega, by simp only [mm_rm]; omega⟩) (mm_pV hKK (mm_rc hKK hT.2.1 mm_le.rf rfl)) rfl rfl hl.1 rfl (lv_room (Nat.le_of_ble_eq_true rfl)) dX8_elementsUnder_32 ⟨Nat.le_of_ble_eq_true rfl, Nat.le_of_ble_eq_true rfl⟩) hS (mm_s0 hS) (fun L_32 hS => ?_)
            refine mm_top (hW.ent hk c_5 hi9).1 ?_
            refine mm_rpu (va_runV (As := [.int (nI (s_chd S k i))]) (rest := [.int (nI (sumN i (fun i => eU S h (s_chd S k i))))]) ⟨hx, hb, hml, hown, hts⟩ (ihr (hg.2.2 (fun z => absurd (hg.2.1.mpr z) (by rw [c_5]; decide)) i hi9)) (cwV 1 hts (lw_V q2789 q2791 qs100 q164 q2792) rfl rfl rfl (by decide +kernel) ⟨by simp only [mm_rm]; omega, by simp only [mm_rm]; omega⟩) (mm_pV hKK (mm_rc hKK hT.2.1 mm_le.rf rfl)) rfl rfl hl.1 rfl (lv_room (Nat.le_of_ble_eq_true rfl)) dX8_elementsUnder_35 ⟨Nat.le_of_ble_eq_true rfl, Nat.le_of_ble_eq_true rfl⟩) hS (mm_s0 hS) (fun L_35 hS => ?_)
            refine mm_iadd hx hb dX8_elementsUnder_38 ?_
            refine lv_istore_n (lv' := [(2, .int (nI (sumN i (fun i => eU S h (s_chd S k i)) + eU S h (s_chd S k i)))), (3, .int (nI i)), (0, .ref x), (1, .int (nI k))]) hx hb dX8_elementsUnder_39 rfl hl (by decide) rfl (fun ls hl => ?_)
            refine lv_iinc (v := nI (i + 1)) (lv' := [(3, .int (nI (i + 1))), (2, .int (nI (sumN i (fun i => eU S h (s_chd S k i)) + eU S h (s_chd S k i)))), (0, .ref x), (1, .int (nI k))]) hx hb dX8_elementsUnder_40 hl (k := 1) rfl (nI_add _ _) (by decide) rfl (fun ls hl => ?_)
            refine lv_goto (tgt := 18) hx hb dX8_elementsUnder_43 (by decide) ?_
            exact ih_18 (i + 1) _ _ (by omega) (by omega) (lv_sub hl [1, 0, 2, 3] rfl)  hS
      exact lp_18 _ 0 _ _ (Nat.lt_succ_self _) (by omega) (lv_sub hl [1, 0, 2, 3] rfl)  hS
    · refine lv_aload_n hx hb dX8_elementsUnder_8 rfl (lv_at hl 0 rfl) ?_
      refine lv_iload_n hx hb dX8_elementsUnder_9 rfl (lv_at hl 1 rfl) ?_
      refine mm_rpu (va_runV (As := [.int (nI k)]) (rest := []) ⟨hx, hb, hml, hown, hts⟩ (t_countOf l hT hR hW (by first | assumption | omega)) (cwV 1 hts (lw_V q2745 q2747 qs89 q164 q2748) rfl rfl rfl (by decide +kernel) ⟨by simp only [mm_rm]; omega, by simp only [mm_rm]; omega⟩) (mm_pV hKK (mm_rc hKK hT.2.1 mm_le.rf rfl)) rfl rfl hl.1 rfl (lv_room (Nat.le_of_ble_eq_true rfl)) dX8_elementsUnder_10 ⟨Nat.le_of_ble_eq_true rfl, Nat.le_of_ble_eq_true rfl⟩) hS (mm_s0 hS) (fun L_10 hS => ?_)
      exact mm_iret (v := nI (s_cnt S k)) hx hb hr hlk hS (Nat.le_of_ble_eq_true rfl) (Nat.le_of_ble_eq_true rfl) (⟨by simp only [eU]; rw [if_pos c_5], rfl⟩) dX8_elementsUnder_13
