/-! the twin: statements (printed by tools/tw22.py) -/
theorem KK.s0 {G : mm_G} {P : mm_H} {s : State} (hKK : KK G P s) : vk_R "VectorVersions$Parser" 22 "" (G.2.2 (400 + 0)) s := hKK.str 0 (by decide) (r := ("VectorVersions$Parser", 22, "")) (by decide +kernel)
theorem KK.s1 {G : mm_G} {P : mm_H} {s : State} (hKK : KK G P s) : vk_R "VectorVersions$Parser" 95 "minus" (G.2.2 (400 + 1)) s := hKK.str 1 (by decide) (r := ("VectorVersions$Parser", 95, "minus")) (by decide +kernel)
theorem KK.s2 {G : mm_G} {P : mm_H} {s : State} (hKK : KK G P s) : vk_R "VectorVersions$Parser" 107 "list" (G.2.2 (400 + 2)) s := hKK.str 2 (by decide) (r := ("VectorVersions$Parser", 107, "list")) (by decide +kernel)
theorem KK.s3 {G : mm_G} {P : mm_H} {s : State} (hKK : KK G P s) : vk_R "VectorVersions$Parser" 147 "set" (G.2.2 (400 + 3)) s := hKK.str 3 (by decide) (r := ("VectorVersions$Parser", 147, "set")) (by decide +kernel)
theorem KK.s4 {G : mm_G} {P : mm_H} {s : State} (hKK : KK G P s) : vk_R "VectorVersions$Parser" 149 "append" (G.2.2 (400 + 4)) s := hKK.str 4 (by decide) (r := ("VectorVersions$Parser", 149, "append")) (by decide +kernel)
theorem KK.s5 {G : mm_G} {P : mm_H} {s : State} (hKK : KK G P s) : vk_R "VectorVersions$Parser" 150 "truncate" (G.2.2 (400 + 5)) s := hKK.str 5 (by decide) (r := ("VectorVersions$Parser", 150, "truncate")) (by decide +kernel)
theorem KK.s6 {G : mm_G} {P : mm_H} {s : State} (hKK : KK G P s) : vk_R "VectorVersions$Parser" 152 "release" (G.2.2 (400 + 6)) s := hKK.str 6 (by decide) (r := ("VectorVersions$Parser", 152, "release")) (by decide +kernel)
theorem KK.s7 {G : mm_G} {P : mm_H} {s : State} (hKK : KK G P s) : vk_R "VectorVersions$Parser" 154 "collect" (G.2.2 (400 + 7)) s := hKK.str 7 (by decide) (r := ("VectorVersions$Parser", 154, "collect")) (by decide +kernel)
theorem KK.s8 {G : mm_G} {P : mm_H} {s : State} (hKK : KK G P s) : vk_R "VectorVersionsModel" 236 "minus" (G.2.2 (400 + 8)) s := hKK.str 8 (by decide) (r := ("VectorVersionsModel", 236, "minus")) (by decide +kernel)
theorem KK.s9 {G : mm_G} {P : mm_H} {s : State} (hKK : KK G P s) : vk_R "VectorVersionsModel" 245 "list" (G.2.2 (400 + 9)) s := hKK.str 9 (by decide) (r := ("VectorVersionsModel", 245, "list")) (by decide +kernel)
theorem KK.s10 {G : mm_G} {P : mm_H} {s : State} (hKK : KK G P s) : vk_R "VectorVersionsModel" 266 "set" (G.2.2 (400 + 10)) s := hKK.str 10 (by decide) (r := ("VectorVersionsModel", 266, "set")) (by decide +kernel)
theorem KK.s11 {G : mm_G} {P : mm_H} {s : State} (hKK : KK G P s) : vk_R "VectorVersionsModel" 268 "append" (G.2.2 (400 + 11)) s := hKK.str 11 (by decide) (r := ("VectorVersionsModel", 268, "append")) (by decide +kernel)
theorem KK.s12 {G : mm_G} {P : mm_H} {s : State} (hKK : KK G P s) : vk_R "VectorVersionsModel" 270 "truncate" (G.2.2 (400 + 12)) s := hKK.str 12 (by decide) (r := ("VectorVersionsModel", 270, "truncate")) (by decide +kernel)
theorem KK.s13 {G : mm_G} {P : mm_H} {s : State} (hKK : KK G P s) : vk_R "VectorVersionsModel" 272 "release" (G.2.2 (400 + 13)) s := hKK.str 13 (by decide) (r := ("VectorVersionsModel", 272, "release")) (by decide +kernel)
theorem KK.s14 {G : mm_G} {P : mm_H} {s : State} (hKK : KK G P s) : vk_R "VectorVersionsModel" 274 "collect" (G.2.2 (400 + 14)) s := hKK.str 14 (by decide) (r := ("VectorVersionsModel", 274, "collect")) (by decide +kernel)
section SK
variable {b : Nat → Int32} {n p : Nat}
theorem stK_0 (h0 : isW b n p w_set = true) : stK b n p = some 0 := by unfold stK; rw [if_pos h0]
theorem stK_1 (h0 : isW b n p w_set = false) (h1 : isW b n p w_append = true) : stK b n p = some 1 := by unfold stK; rw [if_neg (by rw [h0]; decide), if_pos h1]
theorem stK_2 (h0 : isW b n p w_set = false) (h1 : isW b n p w_append = false) (h2 : isW b n p w_trunc = true) : stK b n p = some 2 := by unfold stK; rw [if_neg (by rw [h0]; decide), if_neg (by rw [h1]; decide), if_pos h2]
theorem stK_3 (h0 : isW b n p w_set = false) (h1 : isW b n p w_append = false) (h2 : isW b n p w_trunc = false) (h3 : isW b n p w_rel = true) : stK b n p = some 3 := by unfold stK; rw [if_neg (by rw [h0]; decide), if_neg (by rw [h1]; decide), if_neg (by rw [h2]; decide), if_pos h3]
theorem stK_4 (h0 : isW b n p w_set = false) (h1 : isW b n p w_append = false) (h2 : isW b n p w_trunc = false) (h3 : isW b n p w_rel = false) (h4 : isW b n p w_coll = true) : stK b n p = some 4 := by unfold stK; rw [if_neg (by rw [h0]; decide), if_neg (by rw [h1]; decide), if_neg (by rw [h2]; decide), if_neg (by rw [h3]; decide), if_pos h4]
theorem stK_5 (h0 : isW b n p w_set = false) (h1 : isW b n p w_append = false) (h2 : isW b n p w_trunc = false) (h3 : isW b n p w_rel = false) (h4 : isW b n p w_coll = false) : stK b n p = none := by unfold stK; rw [if_neg (by rw [h0]; decide), if_neg (by rw [h1]; decide), if_neg (by rw [h2]; decide), if_neg (by rw [h3]; decide), if_neg (by rw [h4]; decide)]
end SK
set_option maxRecDepth 100000 in
theorem t_statementKind (l : Launch) {G : mm_G} {P : mm_H} {H : Heap} {x : Nat} {ad : Nat → Nat} {I : Nat → Int32} {F : Nat → Nat → Int32} {bt : Nat → Int32} {n : Nat} {p9 : Nat} (hT : TW G x ad I F H) (hF : mm_le P (mm_h H)) (hX : TX_ bt n I F) (hP : PS bt n (.ok p9) I) : Mt l yX8_statementKind (ws_ yX8_statementKind cX8_statementKind 1 (some .int)) 6 200 0 0 G P [.ref x] H mm_0 (mm_pu (.int (oI (stK bt n p9))) H) := by
  refine Mt.of (by decide) (Nat.le_of_ble_eq_true rfl) (fun p e s m below meth c ls hx hb hr hlk hml hown hnm hts hKK hsH hl hS => ?_)
  have hl : lv_has ls 1 [(0, .ref x)] := hl
  have hxi : exI [16, 17, 18, 19, 20, 21] I I := exI.rf
  have hn6 := hX.2.1
  have hbd_p9 := tk_bd (b := bt) (show p9 ≤ n from hP.1)
  refine lv_aload_n hx hb dX8_statementKind_0 rfl (lv_at hl 0 rfl) ?_
  refine mm_ldcW (own := "VectorVersionsModel") hx hb hown hKK.s10 dX8_statementKind_1 ?_
  refine mm_rpu (v := .int (mm_b (isW bt n p9 w_set))) (va_runV (As := [.ref (G.2.2 (400 + 10))]) (rest := []) ⟨hx, hb, hml, hown, hts⟩ (t_isWord l hT hF (mm_bs.K (i := 10) (w := w_set) (by decide) rfl) hX hP) (cwV 1 hts (lw_V q2639 q2641 qs68 q164 q2642) rfl rfl rfl (by decide +kernel) ⟨Nat.le_of_ble_eq_true rfl, Nat.le_of_ble_eq_true rfl⟩) (mm_pV hKK (mm_rc hKK hT.2.1 mm_le.rf rfl)) rfl rfl hl.1 rfl (lv_room (Nat.le_of_ble_eq_true rfl)) dX8_statementKind_4 ⟨Nat.le_of_ble_eq_true rfl, Nat.le_of_ble_eq_true rfl⟩) hS (mm_s0 hS) (fun L_4 hS => ?_)
  rcases Bool.eq_false_or_eq_true (isW bt n p9 w_set) with hw_4 | hw_4
  · refine mm_top (y := mm_b true) (congrArg mm_b hw_4) ?_
    refine mm_ifeqB (tgt := 12) hx hb dX8_statementKind_7 (by decide) (fun c_7 => ?_) (fun c_7 => ?_)
    · exact absurd c_7 (by decide)
    · refine lv_iconst (v := nI 0) hx hb dX8_statementKind_10 (by decide) ?_
      exact mm_iret (v := nI 0) hx hb hr hlk hS (Nat.le_of_ble_eq_true rfl) (Nat.le_of_ble_eq_true rfl) (⟨by rw [stK_0 hw_4]; rfl, rfl⟩) dX8_statementKind_11
  · refine mm_top (y := mm_b false) (congrArg mm_b hw_4) ?_
    refine mm_ifeqB (tgt := 12) hx hb dX8_statementKind_7 (by decide) (fun c_7 => ?_) (fun c_7 => ?_)
    · refine lv_aload_n hx hb dX8_statementKind_12 rfl (lv_at hl 0 rfl) ?_
      refine mm_ldcW (own := "VectorVersionsModel") hx hb hown hKK.s11 dX8_statementKind_13 ?_
      refine mm_rpu (v := .int (mm_b (isW bt n p9 w_append))) (va_runV (As := [.ref (G.2.2 (400 + 11))]) (rest := []) ⟨hx, hb, hml, hown, hts⟩ (t_isWord l hT hF (mm_bs.K (i := 11) (w := w_append) (by decide) rfl) hX hP) (cwV 1 hts (lw_V q2639 q2641 qs68 q164 q2642) rfl rfl rfl (by decide +kernel) ⟨Nat.le_of_ble_eq_true rfl, Nat.le_of_ble_eq_true rfl⟩) (mm_pV hKK (mm_rc hKK hT.2.1 mm_le.rf rfl)) rfl rfl hl.1 rfl (lv_room (Nat.le_of_ble_eq_true rfl)) dX8_statementKind_16 ⟨Nat.le_of_ble_eq_true rfl, Nat.le_of_ble_eq_true rfl⟩) hS (mm_s0 hS) (fun L_16 hS => ?_)
      rcases Bool.eq_false_or_eq_true (isW bt n p9 w_append) with hw_16 | hw_16
      · refine mm_top (y := mm_b true) (congrArg mm_b hw_16) ?_
        refine mm_ifeqB (tgt := 24) hx hb dX8_statementKind_19 (by decide) (fun c_19 => ?_) (fun c_19 => ?_)
        · exact absurd c_19 (by decide)
        · refine lv_iconst (v := nI 1) hx hb dX8_statementKind_22 (by decide) ?_
          exact mm_iret (v := nI 1) hx hb hr hlk hS (Nat.le_of_ble_eq_true rfl) (Nat.le_of_ble_eq_true rfl) (⟨by rw [stK_1 hw_4 hw_16]; rfl, rfl⟩) dX8_statementKind_23
      · refine mm_top (y := mm_b false) (congrArg mm_b hw_16) ?_
        refine mm_ifeqB (tgt := 24) hx hb dX8_statementKind_19 (by decide) (fun c_19 => ?_) (fun c_19 => ?_)
        · refine lv_aload_n hx hb dX8_statementKind_24 rfl (lv_at hl 0 rfl) ?_
          refine mm_ldcW (own := "VectorVersionsModel") hx hb hown hKK.s12 dX8_statementKind_25 ?_
          refine mm_rpu (v := .int (mm_b (isW bt n p9 w_trunc))) (va_runV (As := [.ref (G.2.2 (400 + 12))]) (rest := []) ⟨hx, hb, hml, hown, hts⟩ (t_isWord l hT hF (mm_bs.K (i := 12) (w := w_trunc) (by decide) rfl) hX hP) (cwV 1 hts (lw_V q2639 q2641 qs68 q164 q2642) rfl rfl rfl (by decide +kernel) ⟨Nat.le_of_ble_eq_true rfl, Nat.le_of_ble_eq_true rfl⟩) (mm_pV hKK (mm_rc hKK hT.2.1 mm_le.rf rfl)) rfl rfl hl.1 rfl (lv_room (Nat.le_of_ble_eq_true rfl)) dX8_statementKind_28 ⟨Nat.le_of_ble_eq_true rfl, Nat.le_of_ble_eq_true rfl⟩) hS (mm_s0 hS) (fun L_28 hS => ?_)
          rcases Bool.eq_false_or_eq_true (isW bt n p9 w_trunc) with hw_28 | hw_28
          · refine mm_top (y := mm_b true) (congrArg mm_b hw_28) ?_
            refine mm_ifeqB (tgt := 36) hx hb dX8_statementKind_31 (by decide) (fun c_31 => ?_) (fun c_31 => ?_)
            · exact absurd c_31 (by decide)
            · refine lv_iconst (v := nI 2) hx hb dX8_statementKind_34 (by decide) ?_
              exact mm_iret (v := nI 2) hx hb hr hlk hS (Nat.le_of_ble_eq_true rfl) (Nat.le_of_ble_eq_true rfl) (⟨by rw [stK_2 hw_4 hw_16 hw_28]; rfl, rfl⟩) dX8_statementKind_35
          · refine mm_top (y := mm_b false) (congrArg mm_b hw_28) ?_
            refine mm_ifeqB (tgt := 36) hx hb dX8_statementKind_31 (by decide) (fun c_31 => ?_) (fun c_31 => ?_)
            · refine lv_aload_n hx hb dX8_statementKind_36 rfl (lv_at hl 0 rfl) ?_
              refine mm_ldcW (own := "VectorVersionsModel") hx hb hown hKK.s13 dX8_statementKind_37 ?_
              refine mm_rpu (v := .int (mm_b (isW bt n p9 w_rel))) (va_runV (As := [.ref (G.2.2 (400 + 13))]) (rest := []) ⟨hx, hb, hml, hown, hts⟩ (t_isWord l hT hF (mm_bs.K (i := 13) (w := w_rel) (by decide) rfl) hX hP) (cwV 1 hts (lw_V q2639 q2641 qs68 q164 q2642) rfl rfl rfl (by decide +kernel) ⟨Nat.le_of_ble_eq_true rfl, Nat.le_of_ble_eq_true rfl⟩) (mm_pV hKK (mm_rc hKK hT.2.1 mm_le.rf rfl)) rfl rfl hl.1 rfl (lv_room (Nat.le_of_ble_eq_true rfl)) dX8_statementKind_40 ⟨Nat.le_of_ble_eq_true rfl, Nat.le_of_ble_eq_true rfl⟩) hS (mm_s0 hS) (fun L_40 hS => ?_)
              rcases Bool.eq_false_or_eq_true (isW bt n p9 w_rel) with hw_40 | hw_40
              · refine mm_top (y := mm_b true) (congrArg mm_b hw_40) ?_
                refine mm_ifeqB (tgt := 48) hx hb dX8_statementKind_43 (by decide) (fun c_43 => ?_) (fun c_43 => ?_)
                · exact absurd c_43 (by decide)
                · refine lv_iconst (v := nI 3) hx hb dX8_statementKind_46 (by decide) ?_
                  exact mm_iret (v := nI 3) hx hb hr hlk hS (Nat.le_of_ble_eq_true rfl) (Nat.le_of_ble_eq_true rfl) (⟨by rw [stK_3 hw_4 hw_16 hw_28 hw_40]; rfl, rfl⟩) dX8_statementKind_47
              · refine mm_top (y := mm_b false) (congrArg mm_b hw_40) ?_
                refine mm_ifeqB (tgt := 48) hx hb dX8_statementKind_43 (by decide) (fun c_43 => ?_) (fun c_43 => ?_)
                · refine lv_aload_n hx hb dX8_statementKind_48 rfl (lv_at hl 0 rfl) ?_
                  refine mm_ldcW (own := "VectorVersionsModel") hx hb hown hKK.s14 dX8_statementKind_49 ?_
                  refine mm_rpu (v := .int (mm_b (isW bt n p9 w_coll))) (va_runV (As := [.ref (G.2.2 (400 + 14))]) (rest := []) ⟨hx, hb, hml, hown, hts⟩ (t_isWord l hT hF (mm_bs.K (i := 14) (w := w_coll) (by decide) rfl) hX hP) (cwV 1 hts (lw_V q2639 q2641 qs68 q164 q2642) rfl rfl rfl (by decide +kernel) ⟨Nat.le_of_ble_eq_true rfl, Nat.le_of_ble_eq_true rfl⟩) (mm_pV hKK (mm_rc hKK hT.2.1 mm_le.rf rfl)) rfl rfl hl.1 rfl (lv_room (Nat.le_of_ble_eq_true rfl)) dX8_statementKind_52 ⟨Nat.le_of_ble_eq_true rfl, Nat.le_of_ble_eq_true rfl⟩) hS (mm_s0 hS) (fun L_52 hS => ?_)
                  rcases Bool.eq_false_or_eq_true (isW bt n p9 w_coll) with hw_52 | hw_52
                  · refine mm_top (y := mm_b true) (congrArg mm_b hw_52) ?_
                    refine mm_ifeqB (tgt := 62) hx hb dX8_statementKind_55 (by decide) (fun c_55 => ?_) (fun c_55 => ?_)
                    · exact absurd c_55 (by decide)
                    · refine lv_iconst (v := nI 4) hx hb dX8_statementKind_58 (by decide) ?_
                      refine lv_goto (tgt := 63) hx hb dX8_statementKind_59 (by decide) ?_
                      exact mm_iret (v := nI 4) hx hb hr hlk hS (Nat.le_of_ble_eq_true rfl) (Nat.le_of_ble_eq_true rfl) (⟨by rw [stK_4 hw_4 hw_16 hw_28 hw_40 hw_52]; rfl, rfl⟩) dX8_statementKind_63
                  · refine mm_top (y := mm_b false) (congrArg mm_b hw_52) ?_
                    refine mm_ifeqB (tgt := 62) hx hb dX8_statementKind_55 (by decide) (fun c_55 => ?_) (fun c_55 => ?_)
                    · refine lv_iconst (v := (-1)) hx hb dX8_statementKind_62 (by decide) ?_
                      exact mm_iret (v := (-1)) hx hb hr hlk hS (Nat.le_of_ble_eq_true rfl) (Nat.le_of_ble_eq_true rfl) (⟨by rw [stK_5 hw_4 hw_16 hw_28 hw_40 hw_52]; rfl, rfl⟩) dX8_statementKind_63
                    · exact absurd c_55 (by decide)
                · exact absurd c_43 (by decide)
            · exact absurd c_31 (by decide)
        · exact absurd c_19 (by decide)
    · exact absurd c_7 (by decide)
set_option maxRecDepth 100000 in
theorem t_parseVersion (l : Launch) {G : mm_G} {P : mm_H} {H : Heap} {x : Nat} {ad : Nat → Nat} {I : Nat → Int32} {F : Nat → Nat → Int32} {bt : Nat → Int32} {n : Nat} {r : pR Nat} (hT : TW G x ad I F H) (hX : TX_ bt n I F) (hP : PS bt n (r) I) : Mt l yX8_parseVersion (ws_ yX8_parseVersion cX8_parseVersion 1 (some .int)) 10 300 0 0 G P [.ref x] H (tw_M x ad) (mm_i (nI (p_vN (p_num bt n r 39))) (fun H2 => ∃ I2, TW G x ad I2 F H2 ∧ exI [16, 17, 18, 19, 20, 21] I I2 ∧ PS bt n (p_pos (p_num bt n r 39)) I2)) := by
  refine Mt.of (by decide) (Nat.le_of_ble_eq_true rfl) (fun p e s m below meth c ls hx hb hr hlk hml hown hnm hts hKK hsH hl hS => ?_)
  have hl : lv_has ls 1 [(0, .ref x)] := hl
  have hMx : mm_A (tw_M x ad) H x := Or.inl (Or.inl rfl)
  have hMa : ∀ j, tw_isA j = true → mm_A (tw_M x ad) H (ad j) := fun j hj => Or.inl (Or.inr ⟨j, hj, rfl⟩)
  have hxi : exI [16, 17, 18, 19, 20, 21] I I := exI.rf
  have hn6 := hX.2.1
  refine lv_aload_n hx hb dX8_parseVersion_0 rfl (lv_at hl 0 rfl) ?_
  refine lv_iconst (v := nI 0) hx hb dX8_parseVersion_1 (by decide) ?_
  refine lv_bipush (v := nI 39) hx hb dX8_parseVersion_2 (by decide) ?_
  refine mm_ri (va_runV (As := [.int (nI 0), .int (nI 39)]) (rest := []) ⟨hx, hb, hml, hown, hts⟩ (t_parseNumber l hT hX hP (by decide)) (cwV 2 hts (lw_V q2664 q2666 qs71 q164 q2667) rfl rfl rfl (by decide +kernel) ⟨Nat.le_of_ble_eq_true rfl, Nat.le_of_ble_eq_true rfl⟩) (mm_pV hKK (mm_rc hKK hT.2.1 mm_le.rf rfl)) rfl rfl hl.1 rfl (lv_room (Nat.le_of_ble_eq_true rfl)) dX8_parseVersion_4 ⟨Nat.le_of_ble_eq_true rfl, Nat.le_of_ble_eq_true rfl⟩) hS (mm_sS hS) (fun H_4 L_4 hB_4 hz_4 hq_4 hS => ?_)
  obtain ⟨I_4, hT, hx_4, hP⟩ := hB_4
  have hxi := hxi.tr (hx_4.mono (by decide))
  have hX : TX_ bt n I_4 F := ⟨(hx_4 13 (by decide)).trans hX.1, hX.2.1, hX.2.2⟩
  exact mm_iret (v := nI (p_vN (p_num bt n r 39))) hx hb hr hlk hS (Nat.le_of_ble_eq_true rfl) (Nat.le_of_ble_eq_true rfl) (⟨rfl, _, hT, hxi, hP⟩) dX8_parseVersion_7
theorem su_s {F : Nat → Nat → Int32} {k i : Nat} {v : Int32} : tw_u F k i v k i = v := by rw [tw_us]; exact pk_us
theorem su_n {F : Nat → Nat → Int32} {k i j : Nat} {v : Int32} (h : j ≠ i) : tw_u F k i v k j = F k j := by rw [tw_us, pk_un h]
/-- a statement in the twin's array -/
def stR (f : Nat → Int32) (i : Nat) (x : pS) : Prop := x.1 ≤ 4 ∧ f (4 * i) = nI x.1 ∧ (x.1 ≤ 3 → f (4 * i + 1) = nI x.2.1) ∧ (x.1 = 0 ∨ x.1 = 2 → f (4 * i + 2) = nI x.2.2.1) ∧ (x.1 = 1 → f (4 * i + 2) = x.2.2.2) ∧ (x.1 = 0 → f (4 * i + 3) = x.2.2.2)
def PSt (b : Nat → Int32) (n : Nat) (r : pR (pS × Nat)) (c : Nat) (I : Nat → Int32) (F F2 : Nat → Nat → Int32) : Prop := match r with
  | .ok (x, q) => PS b n (.ok q) I ∧ I 23 = nI (c + 1) ∧ stR (F2 22) c x ∧ ∀ j, j < 4 * c → F2 22 j = F 22 j
  | .error e => PS b n (.error e) I
section PM
variable {b : Nat → Int32} {n p k c q q2 : Nat} {x : pS} {e : Nat × Nat}
theorem pM_0 (h : stK b n p = none) : pStm b n p c = .error (1, tkS b n p) := by unfold pStm; rw [h]
theorem pM_1 (h : stK b n p = some k) (hc : ¬ c < 30) : pStm b n p c = .error (3, tkS b n p) := by unfold pStm; rw [h]; exact if_neg hc
theorem pM_2 (h : stK b n p = some k) (hc : c < 30) (ha : pArg b n k (tkE b n p) = .error e) : pStm b n p c = .error e := by unfold pStm; rw [h]; exact (if_pos hc).trans (by rw [ha])
theorem pM_3 (h : stK b n p = some k) (hc : c < 30) (ha : pArg b n k (tkE b n p) = .ok (x, q)) (hs : pSem b n q = .error e) : pStm b n p c = .error e := by unfold pStm; rw [h]; exact (if_pos hc).trans (by rw [ha]; dsimp only; rw [hs])
theorem pM_4 (h : stK b n p = some k) (hc : c < 30) (ha : pArg b n k (tkE b n p) = .ok (x, q)) (hs : pSem b n q = .ok q2) : pStm b n p c = .ok (x, q2) := by unfold pStm; rw [h]; exact (if_pos hc).trans (by rw [ha]; dsimp only; rw [hs])
end PM
set_option maxRecDepth 100000 in
theorem t_parseStatement (l : Launch) {G : mm_G} {P : mm_H} {H : Heap} {x : Nat} {ad : Nat → Nat} {I : Nat → Int32} {F : Nat → Nat → Int32} {bt : Nat → Int32} {n : Nat} {p9 : Nat} {k9 : Nat} (hT : TW G x ad I F H) (hX : TX_ bt n I F) (hP : PS bt n (.ok p9) I) (hF : mm_le P (mm_h H)) (hMP : ∀ q, tw_M x ad q → P q = none) (hk23 : I 23 = nI k9) (hk30 : k9 ≤ 30) : Mt l yX8_parseStatement (ws_ yX8_parseStatement cX8_parseStatement 3 none) 14 420 0 0 G P [.ref x] H (tw_M x ad) (mm_v (fun H2 => ∃ I2 F2, TW G x ad I2 F2 H2 ∧ exI [16, 17, 18, 19, 20, 21, 23] I I2 ∧ eqx [22] F F2 ∧ PSt bt n (pStm bt n p9 k9) k9 I2 F F2)) := by
  refine Mt.of (by decide) (Nat.le_of_ble_eq_true rfl) (fun p e s m below meth c ls hx hb hr hlk hml hown hnm hts hKK hsH hl hS => ?_)
  have hl : lv_has ls 3 [(0, .ref x)] := hl
  have hMx : mm_A (tw_M x ad) H x := Or.inl (Or.inl rfl)
  have hMa : ∀ j, tw_isA j = true → mm_A (tw_M x ad) H (ad j) := fun j hj => Or.inl (Or.inr ⟨j, hj, rfl⟩)
  have hxi : exI [16, 17, 18, 19, 20, 21, 23] I I := exI.rf
  have hn6 := hX.2.1
  have hbd_p9 := tk_bd (b := bt) (show p9 ≤ n from hP.1)
  refine lv_aload_n hx hb dX8_parseStatement_0 rfl (lv_at hl 0 rfl) ?_
  refine mm_rpu (v := .int (oI (stK bt n p9))) (va_runV (As := []) (rest := []) ⟨hx, hb, hml, hown, hts⟩ (t_statementKind l hT hF hX hP) (cwV 0 hts (lw_V q2684 q2686 qs75 q164 q2687) rfl rfl rfl (by decide +kernel) ⟨Nat.le_of_ble_eq_true rfl, Nat.le_of_ble_eq_true rfl⟩) (mm_pV hKK (mm_rc hKK hT.2.1 mm_le.rf rfl)) rfl rfl hl.1 rfl (lv_room (Nat.le_of_ble_eq_true rfl)) dX8_parseStatement_1 ⟨Nat.le_of_ble_eq_true rfl, Nat.le_of_ble_eq_true rfl⟩) hS (mm_s0 hS) (fun L_1 hS => ?_)
  rcases stK_c bt n p9 with hk_1 | hk_1 | hk_1 | hk_1 | hk_1 | hk_1
  · refine mm_top (y := (-1)) (by rw [hk_1]; rfl) ?_
    refine lv_istore_n (lv' := [(1, .int ((-1))), (0, .ref x)]) hx hb dX8_parseStatement_4 rfl hl (by decide) rfl (fun ls hl => ?_)
    refine lv_aload_n hx hb dX8_parseStatement_5 rfl (lv_at hl 1 rfl) ?_
    refine lv_iload_n hx hb dX8_parseStatement_6 rfl (lv_at hl 0 rfl) ?_
    refine lv_iconst (v := (-1)) hx hb dX8_parseStatement_7 (by decide) ?_
    refine lv_icmp_eq (tgt := 15) hx hb dX8_parseStatement_8 (by decide) (fun c_8 => ?_) (fun c_8 => ?_)
    · refine lv_iconst (v := nI 0) hx hb dX8_parseStatement_15 (by decide) ?_
      refine mm_top (y := mm_b false) rfl ?_
      refine lv_iconst (v := nI 1) hx hb dX8_parseStatement_16 (by decide) ?_
      refine mm_rv (va_runV (As := [.int (mm_b false), .int (nI 1)]) (rest := []) ⟨hx, hb, hml, hown, hts⟩ (t_expect l hT hX hP (by decide) (by decide)) (cwV 2 hts (lw_V q2655 q2657 qs69 q164 q2658) rfl rfl rfl (by decide +kernel) ⟨Nat.le_of_ble_eq_true rfl, Nat.le_of_ble_eq_true rfl⟩) (mm_pV hKK (mm_rc hKK hT.2.1 mm_le.rf rfl)) rfl rfl hl.1 rfl (lv_room (Nat.le_of_ble_eq_true rfl)) dX8_parseStatement_17 ⟨Nat.le_of_ble_eq_true rfl, Nat.le_of_ble_eq_true rfl⟩) hS (mm_sS hS) (fun H_17 L_17 hB_17 hz_17 hq_17 hS => ?_)
      obtain ⟨I_17, hT, hx_17, hP⟩ := hB_17
      have hxi := hxi.tr (hx_17.mono (by decide))
      have hX : TX_ bt n I_17 F := ⟨(hx_17 13 (by decide)).trans hX.1, hX.2.1, hX.2.2⟩
      have hF := hF.keep hq_17 hMP
      have hk23 := (hx_17 23 (by decide)).trans hk23
      have hP : PS bt n (.error (1, tkS bt n p9)) I_17 := hP
      have hce_45 := hP.1
      refine lv_aload_n hx hb dX8_parseStatement_20 rfl (lv_at hl 1 rfl) ?_
      refine lv_aload_n hx hb dX8_parseStatement_21 rfl (lv_at hl 1 rfl) ?_
      refine tw_geti 23 (v := nI k9) hx hb hts hown hKK hT (by decide) rfl (hk23) (hts _ q2521) dX8_parseStatement_22 ?_
      refine lv_bipush (v := nI 30) hx hb dX8_parseStatement_25 (by decide) ?_
      refine mm_icmp_ge (tgt := 34) (by omega) (by omega) hx hb dX8_parseStatement_27 (by decide) (fun c_27 => ?_) (fun c_27 => ?_)
      · refine lv_iconst (v := nI 0) hx hb dX8_parseStatement_34 (by decide) ?_
        refine mm_top (y := mm_b false) rfl ?_
        refine lv_iconst (v := nI 3) hx hb dX8_parseStatement_35 (by decide) ?_
        refine mm_rv (va_runV (As := [.int (mm_b false), .int (nI 3)]) (rest := []) ⟨hx, hb, hml, hown, hts⟩ (t_expect l hT hX hP (by decide) (by decide)) (cwV 2 hts (lw_V q2655 q2657 qs69 q164 q2658) rfl rfl rfl (by decide +kernel) ⟨Nat.le_of_ble_eq_true rfl, Nat.le_of_ble_eq_true rfl⟩) (mm_pV hKK (mm_rc hKK hT.2.1 mm_le.rf rfl)) rfl rfl hl.1 rfl (lv_room (Nat.le_of_ble_eq_true rfl)) dX8_parseStatement_36 ⟨Nat.le_of_ble_eq_true rfl, Nat.le_of_ble_eq_true rfl⟩) hS (mm_sS hS) (fun H_36 L_36 hB_36 hz_36 hq_36 hS => ?_)
        obtain ⟨I_36, hT, hx_36, hP⟩ := hB_36
        have hxi := hxi.tr (hx_36.mono (by decide))
        have hX : TX_ bt n I_36 F := ⟨(hx_36 13 (by decide)).trans hX.1, hX.2.1, hX.2.2⟩
        have hF := hF.keep hq_36 hMP
        have hk23 := (hx_36 23 (by decide)).trans hk23
        have hP : PS bt n (.error (1, tkS bt n p9)) I_36 := hP
        have hce_46 := hP.1
        refine lv_aload_n hx hb dX8_parseStatement_39 rfl (lv_at hl 1 rfl) ?_
        refine mm_rv (va_runV (As := []) (rest := []) ⟨hx, hb, hml, hown, hts⟩ (t_advance l hT hX hP) (cwV 0 hts (lw_V q2618 q2620 qs64 q164 q2621) rfl rfl rfl (by decide +kernel) ⟨Nat.le_of_ble_eq_true rfl, Nat.le_of_ble_eq_true rfl⟩) (mm_pV hKK (mm_rc hKK hT.2.1 mm_le.rf rfl)) rfl rfl hl.1 rfl (lv_room (Nat.le_of_ble_eq_true rfl)) dX8_parseStatement_40 ⟨Nat.le_of_ble_eq_true rfl, Nat.le_of_ble_eq_true rfl⟩) hS (mm_sS hS) (fun H_40 L_40 hB_40 hz_40 hq_40 hS => ?_)
        obtain ⟨I_40, hT, hx_40, hP⟩ := hB_40
        have hxi := hxi.tr (hx_40.mono (by decide))
        have hX : TX_ bt n I_40 F := ⟨(hx_40 13 (by decide)).trans hX.1, hX.2.1, hX.2.2⟩
        have hF := hF.keep hq_40 hMP
        have hk23 := (hx_40 23 (by decide)).trans hk23
        have hP : PS bt n (.error (1, tkS bt n p9)) I_40 := hP
        have hce_47 := hP.1
        refine lv_aload_n hx hb dX8_parseStatement_43 rfl (lv_at hl 1 rfl) ?_
        refine tw_geti 20 (v := nI 1) hx hb hts hown hKK hT (by decide) rfl (hP.2.1) (hts _ q2518) dX8_parseStatement_44 ?_
        refine mm_if_le (tgt := 51) (by omega) hx hb dX8_parseStatement_47 (by decide) (fun c_47 => ?_) (fun c_47 => ?_)
        · exact absurd c_47 (by decide)
        · exact mm_vret hx hb hr hlk hS (Nat.le_of_ble_eq_true rfl) (Nat.le_of_ble_eq_true rfl) (⟨rfl, _, F, hT, hxi, eqx.rf, by rw [pM_0 hk_1]; exact hP⟩) dX8_parseStatement_50
      · refine lv_iconst (v := nI 1) hx hb dX8_parseStatement_30 (by decide) ?_
        refine mm_top (y := mm_b true) rfl ?_
        refine lv_goto (tgt := 35) hx hb dX8_parseStatement_31 (by decide) ?_
        refine lv_iconst (v := nI 3) hx hb dX8_parseStatement_35 (by decide) ?_
        refine mm_rv (va_runV (As := [.int (mm_b true), .int (nI 3)]) (rest := []) ⟨hx, hb, hml, hown, hts⟩ (t_expect l hT hX hP (by decide) (by decide)) (cwV 2 hts (lw_V q2655 q2657 qs69 q164 q2658) rfl rfl rfl (by decide +kernel) ⟨Nat.le_of_ble_eq_true rfl, Nat.le_of_ble_eq_true rfl⟩) (mm_pV hKK (mm_rc hKK hT.2.1 mm_le.rf rfl)) rfl rfl hl.1 rfl (lv_room (Nat.le_of_ble_eq_true rfl)) dX8_parseStatement_36 ⟨Nat.le_of_ble_eq_true rfl, Nat.le_of_ble_eq_true rfl⟩) hS (mm_sS hS) (fun H_36 L_36 hB_36 hz_36 hq_36 hS => ?_)
        obtain ⟨I_36, hT, hx_36, hP⟩ := hB_36
        have hxi := hxi.tr (hx_36.mono (by decide))
        have hX : TX_ bt n I_36 F := ⟨(hx_36 13 (by decide)).trans hX.1, hX.2.1, hX.2.2⟩
        have hF := hF.keep hq_36 hMP
        have hk23 := (hx_36 23 (by decide)).trans hk23
        have hP : PS bt n (.error (1, tkS bt n p9)) I_36 := hP
        have hce_48 := hP.1
        refine lv_aload_n hx hb dX8_parseStatement_39 rfl (lv_at hl 1 rfl) ?_
        refine mm_rv (va_runV (As := []) (rest := []) ⟨hx, hb, hml, hown, hts⟩ (t_advance l hT hX hP) (cwV 0 hts (lw_V q2618 q2620 qs64 q164 q2621) rfl rfl rfl (by decide +kernel) ⟨Nat.le_of_ble_eq_true rfl, Nat.le_of_ble_eq_true rfl⟩) (mm_pV hKK (mm_rc hKK hT.2.1 mm_le.rf rfl)) rfl rfl hl.1 rfl (lv_room (Nat.le_of_ble_eq_true rfl)) dX8_parseStatement_40 ⟨Nat.le_of_ble_eq_true rfl, Nat.le_of_ble_eq_true rfl⟩) hS (mm_sS hS) (fun H_40 L_40 hB_40 hz_40 hq_40 hS => ?_)
        obtain ⟨I_40, hT, hx_40, hP⟩ := hB_40
        have hxi := hxi.tr (hx_40.mono (by decide))
        have hX : TX_ bt n I_40 F := ⟨(hx_40 13 (by decide)).trans hX.1, hX.2.1, hX.2.2⟩
        have hF := hF.keep hq_40 hMP
        have hk23 := (hx_40 23 (by decide)).trans hk23
        have hP : PS bt n (.error (1, tkS bt n p9)) I_40 := hP
        have hce_49 := hP.1
        refine lv_aload_n hx hb dX8_parseStatement_43 rfl (lv_at hl 1 rfl) ?_
        refine tw_geti 20 (v := nI 1) hx hb hts hown hKK hT (by decide) rfl (hP.2.1) (hts _ q2518) dX8_parseStatement_44 ?_
        refine mm_if_le (tgt := 51) (by omega) hx hb dX8_parseStatement_47 (by decide) (fun c_47 => ?_) (fun c_47 => ?_)
        · exact absurd c_47 (by decide)
        · exact mm_vret hx hb hr hlk hS (Nat.le_of_ble_eq_true rfl) (Nat.le_of_ble_eq_true rfl) (⟨rfl, _, F, hT, hxi, eqx.rf, by rw [pM_0 hk_1]; exact hP⟩) dX8_parseStatement_50
    · exact absurd rfl c_8
  · refine mm_top (y := nI 0) (by rw [hk_1]; rfl) ?_
    refine lv_istore_n (lv' := [(1, .int (nI 0)), (0, .ref x)]) hx hb dX8_parseStatement_4 rfl hl (by decide) rfl (fun ls hl => ?_)
    refine lv_aload_n hx hb dX8_parseStatement_5 rfl (lv_at hl 1 rfl) ?_
    refine lv_iload_n hx hb dX8_parseStatement_6 rfl (lv_at hl 0 rfl) ?_
    refine lv_iconst (v := (-1)) hx hb dX8_parseStatement_7 (by decide) ?_
    refine lv_icmp_eq (tgt := 15) hx hb dX8_parseStatement_8 (by decide) (fun c_8 => ?_) (fun c_8 => ?_)
    · exact absurd c_8 (by decide)
    · refine lv_iconst (v := nI 1) hx hb dX8_parseStatement_11 (by decide) ?_
      refine mm_top (y := mm_b true) rfl ?_
      refine lv_goto (tgt := 16) hx hb dX8_parseStatement_12 (by decide) ?_
      refine lv_iconst (v := nI 1) hx hb dX8_parseStatement_16 (by decide) ?_
      refine mm_rv (va_runV (As := [.int (mm_b true), .int (nI 1)]) (rest := []) ⟨hx, hb, hml, hown, hts⟩ (t_expect l hT hX hP (by decide) (by decide)) (cwV 2 hts (lw_V q2655 q2657 qs69 q164 q2658) rfl rfl rfl (by decide +kernel) ⟨Nat.le_of_ble_eq_true rfl, Nat.le_of_ble_eq_true rfl⟩) (mm_pV hKK (mm_rc hKK hT.2.1 mm_le.rf rfl)) rfl rfl hl.1 rfl (lv_room (Nat.le_of_ble_eq_true rfl)) dX8_parseStatement_17 ⟨Nat.le_of_ble_eq_true rfl, Nat.le_of_ble_eq_true rfl⟩) hS (mm_sS hS) (fun H_17 L_17 hB_17 hz_17 hq_17 hS => ?_)
      obtain ⟨I_17, hT, hx_17, hP⟩ := hB_17
      have hxi := hxi.tr (hx_17.mono (by decide))
      have hX : TX_ bt n I_17 F := ⟨(hx_17 13 (by decide)).trans hX.1, hX.2.1, hX.2.2⟩
      have hF := hF.keep hq_17 hMP
      have hk23 := (hx_17 23 (by decide)).trans hk23
      have hP : PS bt n (.ok p9) I_17 := hP
      have hbd_p9 := tk_bd (b := bt) (show p9 ≤ n from hP.1)
      refine lv_aload_n hx hb dX8_parseStatement_20 rfl (lv_at hl 1 rfl) ?_
      refine lv_aload_n hx hb dX8_parseStatement_21 rfl (lv_at hl 1 rfl) ?_
      refine tw_geti 23 (v := nI k9) hx hb hts hown hKK hT (by decide) rfl (hk23) (hts _ q2521) dX8_parseStatement_22 ?_
      refine lv_bipush (v := nI 30) hx hb dX8_parseStatement_25 (by decide) ?_
      refine mm_icmp_ge (tgt := 34) (by omega) (by omega) hx hb dX8_parseStatement_27 (by decide) (fun c_27 => ?_) (fun c_27 => ?_)
      · refine lv_iconst (v := nI 0) hx hb dX8_parseStatement_34 (by decide) ?_
        refine mm_top (y := mm_b false) rfl ?_
        refine lv_iconst (v := nI 3) hx hb dX8_parseStatement_35 (by decide) ?_
        refine mm_rv (va_runV (As := [.int (mm_b false), .int (nI 3)]) (rest := []) ⟨hx, hb, hml, hown, hts⟩ (t_expect l hT hX hP (by decide) (by decide)) (cwV 2 hts (lw_V q2655 q2657 qs69 q164 q2658) rfl rfl rfl (by decide +kernel) ⟨Nat.le_of_ble_eq_true rfl, Nat.le_of_ble_eq_true rfl⟩) (mm_pV hKK (mm_rc hKK hT.2.1 mm_le.rf rfl)) rfl rfl hl.1 rfl (lv_room (Nat.le_of_ble_eq_true rfl)) dX8_parseStatement_36 ⟨Nat.le_of_ble_eq_true rfl, Nat.le_of_ble_eq_true rfl⟩) hS (mm_sS hS) (fun H_36 L_36 hB_36 hz_36 hq_36 hS => ?_)
        obtain ⟨I_36, hT, hx_36, hP⟩ := hB_36
        have hxi := hxi.tr (hx_36.mono (by decide))
        have hX : TX_ bt n I_36 F := ⟨(hx_36 13 (by decide)).trans hX.1, hX.2.1, hX.2.2⟩
        have hF := hF.keep hq_36 hMP
        have hk23 := (hx_36 23 (by decide)).trans hk23
        have hP : PS bt n (.error (3, tkS bt n p9)) I_36 := hP
        have hce_50 := hP.1
        refine lv_aload_n hx hb dX8_parseStatement_39 rfl (lv_at hl 1 rfl) ?_
        refine mm_rv (va_runV (As := []) (rest := []) ⟨hx, hb, hml, hown, hts⟩ (t_advance l hT hX hP) (cwV 0 hts (lw_V q2618 q2620 qs64 q164 q2621) rfl rfl rfl (by decide +kernel) ⟨Nat.le_of_ble_eq_true rfl, Nat.le_of_ble_eq_true rfl⟩) (mm_pV hKK (mm_rc hKK hT.2.1 mm_le.rf rfl)) rfl rfl hl.1 rfl (lv_room (Nat.le_of_ble_eq_true rfl)) dX8_parseStatement_40 ⟨Nat.le_of_ble_eq_true rfl, Nat.le_of_ble_eq_true rfl⟩) hS (mm_sS hS) (fun H_40 L_40 hB_40 hz_40 hq_40 hS => ?_)
        obtain ⟨I_40, hT, hx_40, hP⟩ := hB_40
        have hxi := hxi.tr (hx_40.mono (by decide))
        have hX : TX_ bt n I_40 F := ⟨(hx_40 13 (by decide)).trans hX.1, hX.2.1, hX.2.2⟩
        have hF := hF.keep hq_40 hMP
        have hk23 := (hx_40 23 (by decide)).trans hk23
        have hP : PS bt n (.error (3, tkS bt n p9)) I_40 := hP
        have hce_51 := hP.1
        refine lv_aload_n hx hb dX8_parseStatement_43 rfl (lv_at hl 1 rfl) ?_
        refine tw_geti 20 (v := nI 3) hx hb hts hown hKK hT (by decide) rfl (hP.2.1) (hts _ q2518) dX8_parseStatement_44 ?_
        refine mm_if_le (tgt := 51) (by omega) hx hb dX8_parseStatement_47 (by decide) (fun c_47 => ?_) (fun c_47 => ?_)
        · exact absurd c_47 (by decide)
        · exact mm_vret hx hb hr hlk hS (Nat.le_of_ble_eq_true rfl) (Nat.le_of_ble_eq_true rfl) (⟨rfl, _, F, hT, hxi, eqx.rf, by rw [pM_1 hk_1 (by omega)]; exact hP⟩) dX8_parseStatement_50
      · refine lv_iconst (v := nI 1) hx hb dX8_parseStatement_30 (by decide) ?_
        refine mm_top (y := mm_b true) rfl ?_
        refine lv_goto (tgt := 35) hx hb dX8_parseStatement_31 (by decide) ?_
        refine lv_iconst (v := nI 3) hx hb dX8_parseStatement_35 (by decide) ?_
        refine mm_rv (va_runV (As := [.int (mm_b true), .int (nI 3)]) (rest := []) ⟨hx, hb, hml, hown, hts⟩ (t_expect l hT hX hP (by decide) (by decide)) (cwV 2 hts (lw_V q2655 q2657 qs69 q164 q2658) rfl rfl rfl (by decide +kernel) ⟨Nat.le_of_ble_eq_true rfl, Nat.le_of_ble_eq_true rfl⟩) (mm_pV hKK (mm_rc hKK hT.2.1 mm_le.rf rfl)) rfl rfl hl.1 rfl (lv_room (Nat.le_of_ble_eq_true rfl)) dX8_parseStatement_36 ⟨Nat.le_of_ble_eq_true rfl, Nat.le_of_ble_eq_true rfl⟩) hS (mm_sS hS) (fun H_36 L_36 hB_36 hz_36 hq_36 hS => ?_)
        obtain ⟨I_36, hT, hx_36, hP⟩ := hB_36
        have hxi := hxi.tr (hx_36.mono (by decide))
        have hX : TX_ bt n I_36 F := ⟨(hx_36 13 (by decide)).trans hX.1, hX.2.1, hX.2.2⟩
        have hF := hF.keep hq_36 hMP
        have hk23 := (hx_36 23 (by decide)).trans hk23
        have hP : PS bt n (.ok p9) I_36 := hP
        have hbd_p9 := tk_bd (b := bt) (show p9 ≤ n from hP.1)
        refine lv_aload_n hx hb dX8_parseStatement_39 rfl (lv_at hl 1 rfl) ?_
        refine mm_rv (va_runV (As := []) (rest := []) ⟨hx, hb, hml, hown, hts⟩ (t_advance l hT hX hP) (cwV 0 hts (lw_V q2618 q2620 qs64 q164 q2621) rfl rfl rfl (by decide +kernel) ⟨Nat.le_of_ble_eq_true rfl, Nat.le_of_ble_eq_true rfl⟩) (mm_pV hKK (mm_rc hKK hT.2.1 mm_le.rf rfl)) rfl rfl hl.1 rfl (lv_room (Nat.le_of_ble_eq_true rfl)) dX8_parseStatement_40 ⟨Nat.le_of_ble_eq_true rfl, Nat.le_of_ble_eq_true rfl⟩) hS (mm_sS hS) (fun H_40 L_40 hB_40 hz_40 hq_40 hS => ?_)
        obtain ⟨I_40, hT, hx_40, hP⟩ := hB_40
        have hxi := hxi.tr (hx_40.mono (by decide))
        have hX : TX_ bt n I_40 F := ⟨(hx_40 13 (by decide)).trans hX.1, hX.2.1, hX.2.2⟩
        have hF := hF.keep hq_40 hMP
        have hk23 := (hx_40 23 (by decide)).trans hk23
        have hP : PS bt n (.ok (tkE bt n p9)) I_40 := hP
        have hbd_tkE_bt_n_p9 := tk_bd (b := bt) (show tkE bt n p9 ≤ n from hP.1)
        refine lv_aload_n hx hb dX8_parseStatement_43 rfl (lv_at hl 1 rfl) ?_
        refine tw_geti 20 (v := nI 0) hx hb hts hown hKK hT (by decide) rfl (hP.2.1) (hts _ q2518) dX8_parseStatement_44 ?_
        refine mm_if_le (tgt := 51) (by omega) hx hb dX8_parseStatement_47 (by decide) (fun c_47 => ?_) (fun c_47 => ?_)
        · refine lv_iconst (v := nI 4) hx hb dX8_parseStatement_51 (by decide) ?_
          refine lv_aload_n hx hb dX8_parseStatement_52 rfl (lv_at hl 1 rfl) ?_
          refine tw_geti 23 (v := nI k9) hx hb hts hown hKK hT (by decide) rfl (hk23) (hts _ q2521) dX8_parseStatement_53 ?_
          refine mm_imul hx hb dX8_parseStatement_56 ?_
          refine lv_istore_n (lv' := [(2, .int (nI (4 * k9))), (1, .int (nI 0)), (0, .ref x)]) hx hb dX8_parseStatement_57 rfl hl (by decide) rfl (fun ls hl => ?_)
          refine lv_aload_n hx hb dX8_parseStatement_58 rfl (lv_at hl 2 rfl) ?_
          refine tw_geta 22 hx hb hts hown hKK hT rfl rfl (hts _ q2520) dX8_parseStatement_59 ?_
          refine lv_iload_n hx hb dX8_parseStatement_62 rfl (lv_at hl 0 rfl) ?_
          refine lv_iload_n hx hb dX8_parseStatement_63 rfl (lv_at hl 1 rfl) ?_
          refine tw_st 22 (k := (4 * k9)) hx hb hKK hT hS hMa rfl rfl (by show _ < 120; omega) dX8_parseStatement_64 (fun H_64 L_64 hT hz_64 hq_64 hS => ?_)
          have hX : TX_ bt n I_40 ((tw_u F 22 (4 * k9) (nI 0))) := ⟨hX.1, hX.2.1, fun i hi => (congrFun (tw_uo (by decide)) i).trans (hX.2.2 i hi)⟩
          have hF := hF.put hq_64 (hMP _ (.inr ⟨22, rfl, rfl⟩))
          refine lv_iload_n hx hb dX8_parseStatement_65 rfl (lv_at hl 1 rfl) ?_
          refine lv_tableIn (off := 30) (tgt := 96) hx hb dX8_parseStatement_66 (by decide) (by decide) (by rfl) (by decide) ?_
          refine lv_aload_n hx hb dX8_parseStatement_96 rfl (lv_at hl 2 rfl) ?_
          refine tw_geta 22 hx hb hts hown hKK hT rfl rfl (hts _ q2520) dX8_parseStatement_97 ?_
          refine lv_iload_n hx hb dX8_parseStatement_100 rfl (lv_at hl 0 rfl) ?_
          refine lv_iconst (v := nI 1) hx hb dX8_parseStatement_101 (by decide) ?_
          refine mm_iadd hx hb dX8_parseStatement_102 ?_
          refine lv_aload_n hx hb dX8_parseStatement_103 rfl (lv_at hl 2 rfl) ?_
          refine mm_ri (va_runV (As := []) (rest := [.int (nI (4 * k9 + 1)), .ref (ad 22)]) ⟨hx, hb, hml, hown, hts⟩ (t_parseVersion l hT hX hP) (cwV 0 hts (lw_V q2693 q2695 qs76 q164 q2696) rfl rfl rfl (by decide +kernel) ⟨Nat.le_of_ble_eq_true rfl, Nat.le_of_ble_eq_true rfl⟩) (mm_pV hKK (mm_rc hKK hT.2.1 mm_le.rf rfl)) rfl rfl hl.1 rfl (lv_room (Nat.le_of_ble_eq_true rfl)) dX8_parseStatement_104 ⟨Nat.le_of_ble_eq_true rfl, Nat.le_of_ble_eq_true rfl⟩) hS (mm_sS hS) (fun H_104 L_104 hB_104 hz_104 hq_104 hS => ?_)
          obtain ⟨I_104, hT, hx_104, hP⟩ := hB_104
          have hxi := hxi.tr (hx_104.mono (by decide))
          have hX : TX_ bt n I_104 ((tw_u F 22 (4 * k9) (nI 0))) := ⟨(hx_104 13 (by decide)).trans hX.1, hX.2.1, hX.2.2⟩
          have hF := hF.keep hq_104 hMP
          have hk23 := (hx_104 23 (by decide)).trans hk23
          rcases hN_104 : pNum bt n (tkE bt n p9) 39 with ⟨c_104, o_104⟩ | ⟨v_104, q_104⟩
          · have hP : PS bt n (.error (c_104, o_104)) I_104 := by have hP : PS bt n (p_pos (pNum bt n (tkE bt n p9) 39)) I_104 := hP; rw [hN_104] at hP; exact hP
            have hce_52 := hP.1
            refine mm_top (y := nI 0) (by show nI (p_vN (pNum bt n (tkE bt n p9) 39)) = _; rw [hN_104]; rfl) ?_
            refine tw_st 22 (k := (4 * k9 + 1)) hx hb hKK hT hS hMa rfl rfl (by show _ < 120; omega) dX8_parseStatement_107 (fun H_107 L_107 hT hz_107 hq_107 hS => ?_)
            have hX : TX_ bt n I_104 ((tw_u (tw_u F 22 (4 * k9) (nI 0)) 22 (4 * k9 + 1) (nI 0))) := ⟨hX.1, hX.2.1, fun i hi => (congrFun (tw_uo (by decide)) i).trans (hX.2.2 i hi)⟩
            have hF := hF.put hq_107 (hMP _ (.inr ⟨22, rfl, rfl⟩))
            refine lv_aload_n hx hb dX8_parseStatement_108 rfl (lv_at hl 2 rfl) ?_
            refine tw_geta 22 hx hb hts hown hKK hT rfl rfl (hts _ q2520) dX8_parseStatement_109 ?_
            refine lv_iload_n hx hb dX8_parseStatement_112 rfl (lv_at hl 0 rfl) ?_
            refine lv_iconst (v := nI 2) hx hb dX8_parseStatement_113 (by decide) ?_
            refine mm_iadd hx hb dX8_parseStatement_114 ?_
            refine lv_aload_n hx hb dX8_parseStatement_115 rfl (lv_at hl 2 rfl) ?_
            refine lv_iconst (v := nI 0) hx hb dX8_parseStatement_116 (by decide) ?_
            refine lv_bipush (v := nI 63) hx hb dX8_parseStatement_117 (by decide) ?_
            refine mm_ri (va_runV (As := [.int (nI 0), .int (nI 63)]) (rest := [.int (nI (4 * k9 + 2)), .ref (ad 22)]) ⟨hx, hb, hml, hown, hts⟩ (t_parseNumber l hT hX hP (by decide)) (cwV 2 hts (lw_V q2664 q2666 qs71 q164 q2667) rfl rfl rfl (by decide +kernel) ⟨Nat.le_of_ble_eq_true rfl, Nat.le_of_ble_eq_true rfl⟩) (mm_pV hKK (mm_rc hKK hT.2.1 mm_le.rf rfl)) rfl rfl hl.1 rfl (lv_room (Nat.le_of_ble_eq_true rfl)) dX8_parseStatement_119 ⟨Nat.le_of_ble_eq_true rfl, Nat.le_of_ble_eq_true rfl⟩) hS (mm_sS hS) (fun H_119 L_119 hB_119 hz_119 hq_119 hS => ?_)
            obtain ⟨I_119, hT, hx_119, hP⟩ := hB_119
            have hxi := hxi.tr (hx_119.mono (by decide))
            have hX : TX_ bt n I_119 ((tw_u (tw_u F 22 (4 * k9) (nI 0)) 22 (4 * k9 + 1) (nI 0))) := ⟨(hx_119 13 (by decide)).trans hX.1, hX.2.1, hX.2.2⟩
            have hF := hF.keep hq_119 hMP
            have hk23 := (hx_119 23 (by decide)).trans hk23
            have hP : PS bt n (.error (c_104, o_104)) I_119 := hP
            have hce_53 := hP.1
            refine mm_top (y := nI 0) rfl ?_
            refine tw_st 22 (k := (4 * k9 + 2)) hx hb hKK hT hS hMa rfl rfl (by show _ < 120; omega) dX8_parseStatement_122 (fun H_122 L_122 hT hz_122 hq_122 hS => ?_)
            have hX : TX_ bt n I_119 ((tw_u (tw_u (tw_u F 22 (4 * k9) (nI 0)) 22 (4 * k9 + 1) (nI 0)) 22 (4 * k9 + 2) (nI 0))) := ⟨hX.1, hX.2.1, fun i hi => (congrFun (tw_uo (by decide)) i).trans (hX.2.2 i hi)⟩
            have hF := hF.put hq_122 (hMP _ (.inr ⟨22, rfl, rfl⟩))
            refine lv_aload_n hx hb dX8_parseStatement_123 rfl (lv_at hl 2 rfl) ?_
            refine tw_geta 22 hx hb hts hown hKK hT rfl rfl (hts _ q2520) dX8_parseStatement_124 ?_
            refine lv_iload_n hx hb dX8_parseStatement_127 rfl (lv_at hl 0 rfl) ?_
            refine lv_iconst (v := nI 3) hx hb dX8_parseStatement_128 (by decide) ?_
            refine mm_iadd hx hb dX8_parseStatement_129 ?_
            refine lv_aload_n hx hb dX8_parseStatement_130 rfl (lv_at hl 2 rfl) ?_
            refine lv_iconst (v := nI 1) hx hb dX8_parseStatement_131 (by decide) ?_
            refine mm_ri (va_runV (As := [.int (mm_b true)]) (rest := [.int (nI (4 * k9 + 3)), .ref (ad 22)]) ⟨hx, hb, hml, hown, hts⟩ (t_parseValue l hT hX hP hF hMP) (cwV 1 hts (lw_V q2659 q2661 qs70 q164 q2662) rfl rfl rfl (by decide +kernel) ⟨Nat.le_of_ble_eq_true rfl, Nat.le_of_ble_eq_true rfl⟩) (mm_pV hKK (mm_rc hKK hT.2.1 mm_le.rf rfl)) rfl rfl hl.1 rfl (lv_room (Nat.le_of_ble_eq_true rfl)) dX8_parseStatement_132 ⟨Nat.le_of_ble_eq_true rfl, Nat.le_of_ble_eq_true rfl⟩) hS (mm_sS hS) (fun H_132 L_132 hB_132 hz_132 hq_132 hS => ?_)
            obtain ⟨I_132, hT, hx_132, hP⟩ := hB_132
            have hxi := hxi.tr (hx_132.mono (by decide))
            have hX : TX_ bt n I_132 ((tw_u (tw_u (tw_u F 22 (4 * k9) (nI 0)) 22 (4 * k9 + 1) (nI 0)) 22 (4 * k9 + 2) (nI 0))) := ⟨(hx_132 13 (by decide)).trans hX.1, hX.2.1, hX.2.2⟩
            have hF := hF.keep hq_132 hMP
            have hk23 := (hx_132 23 (by decide)).trans hk23
            have hP : PS bt n (.error (c_104, o_104)) I_132 := hP
            have hce_54 := hP.1
            refine mm_top (y := 0) rfl ?_
            refine tw_st 22 (k := (4 * k9 + 3)) hx hb hKK hT hS hMa rfl rfl (by show _ < 120; omega) dX8_parseStatement_135 (fun H_135 L_135 hT hz_135 hq_135 hS => ?_)
            have hX : TX_ bt n I_132 ((tw_u (tw_u (tw_u (tw_u F 22 (4 * k9) (nI 0)) 22 (4 * k9 + 1) (nI 0)) 22 (4 * k9 + 2) (nI 0)) 22 (4 * k9 + 3) (0))) := ⟨hX.1, hX.2.1, fun i hi => (congrFun (tw_uo (by decide)) i).trans (hX.2.2 i hi)⟩
            have hF := hF.put hq_135 (hMP _ (.inr ⟨22, rfl, rfl⟩))
            refine lv_goto (tgt := 212) hx hb dX8_parseStatement_136 (by decide) ?_
            refine lv_aload_n hx hb dX8_parseStatement_212 rfl (lv_at hl 2 rfl) ?_
            refine mm_rv (va_runV (As := []) (rest := []) ⟨hx, hb, hml, hown, hts⟩ (t_parseSemicolon l hT hX hP) (cwV 0 hts (lw_V q2668 q2670 qs72 q164 q2671) rfl rfl rfl (by decide +kernel) ⟨Nat.le_of_ble_eq_true rfl, Nat.le_of_ble_eq_true rfl⟩) (mm_pV hKK (mm_rc hKK hT.2.1 mm_le.rf rfl)) rfl rfl hl.1 rfl (lv_room (Nat.le_of_ble_eq_true rfl)) dX8_parseStatement_213 ⟨Nat.le_of_ble_eq_true rfl, Nat.le_of_ble_eq_true rfl⟩) hS (mm_sS hS) (fun H_213 L_213 hB_213 hz_213 hq_213 hS => ?_)
            obtain ⟨I_213, hT, hx_213, hP⟩ := hB_213
            have hxi := hxi.tr (hx_213.mono (by decide))
            have hX : TX_ bt n I_213 ((tw_u (tw_u (tw_u (tw_u F 22 (4 * k9) (nI 0)) 22 (4 * k9 + 1) (nI 0)) 22 (4 * k9 + 2) (nI 0)) 22 (4 * k9 + 3) (0))) := ⟨(hx_213 13 (by decide)).trans hX.1, hX.2.1, hX.2.2⟩
            have hF := hF.keep hq_213 hMP
            have hk23 := (hx_213 23 (by decide)).trans hk23
            have hP : PS bt n (.error (c_104, o_104)) I_213 := hP
            have hce_55 := hP.1
            refine lv_aload_n hx hb dX8_parseStatement_216 rfl (lv_at hl 2 rfl) ?_
            refine lv_dup hx hb dX8_parseStatement_217 rfl ?_
            refine tw_geti 23 (v := nI k9) hx hb hts hown hKK hT (by decide) rfl (hk23) (hts _ q2521) dX8_parseStatement_218 ?_
            refine lv_iconst (v := nI 1) hx hb dX8_parseStatement_221 (by decide) ?_
            refine mm_iadd hx hb dX8_parseStatement_222 ?_
            refine tw_put 23 hx hb hts hown hKK hT hS (hMx) (by decide) rfl (by decide) ⟨rfl, rfl⟩ (hts _ q2521) dX8_parseStatement_223 (fun H_223 L_223 hT hz_223 hq_223 hS => ?_)
            have hX : TX_ bt n ((upd I_213 23 (nI (k9 + 1)))) ((tw_u (tw_u (tw_u (tw_u F 22 (4 * k9) (nI 0)) 22 (4 * k9 + 1) (nI 0)) 22 (4 * k9 + 2) (nI 0)) 22 (4 * k9 + 3) (0))) := ⟨(tw_un (by decide)).trans hX.1, hX.2⟩
            have hxi : exI [16, 17, 18, 19, 20, 21, 23] I ((upd I_213 23 (nI (k9 + 1)))) := hxi.tr (exI.u (by decide))
            have hF := hF.put hq_223 (hMP x (.inl rfl))
            have hP : PS bt n (.error (c_104, o_104)) ((upd I_213 23 (nI (k9 + 1)))) := hP.cg (fun j h1 h2 => tw_un (by omega))
            have hk23 : ((upd I_213 23 (nI (k9 + 1)))) 23 = nI (k9 + 1) := tw_up _ _ _
            exact mm_vret hx hb hr hlk hS (Nat.le_of_ble_eq_true rfl) (Nat.le_of_ble_eq_true rfl) (⟨rfl, _, _, hT, hxi, (((eqx.u (by decide)).tr (eqx.u (by decide))).tr (eqx.u (by decide))).tr (eqx.u (by decide)), by rw [pM_2 (e := (c_104, o_104)) hk_1 c_27 (by simp only [pArg, hN_104])]; exact hP⟩) dX8_parseStatement_226
          · have hP : PS bt n (.ok q_104) I_104 := by have hP : PS bt n (p_pos (pNum bt n (tkE bt n p9) 39)) I_104 := hP; rw [hN_104] at hP; exact hP
            have hbd_q_104 := tk_bd (b := bt) (show q_104 ≤ n from hP.1)
            have hle_104 := pNum_le hN_104
            refine mm_top (y := nI v_104) (by show nI (p_vN (pNum bt n (tkE bt n p9) 39)) = _; rw [hN_104]; rfl) ?_
            refine tw_st 22 (k := (4 * k9 + 1)) hx hb hKK hT hS hMa rfl rfl (by show _ < 120; omega) dX8_parseStatement_107 (fun H_107 L_107 hT hz_107 hq_107 hS => ?_)
            have hX : TX_ bt n I_104 ((tw_u (tw_u F 22 (4 * k9) (nI 0)) 22 (4 * k9 + 1) (nI v_104))) := ⟨hX.1, hX.2.1, fun i hi => (congrFun (tw_uo (by decide)) i).trans (hX.2.2 i hi)⟩
            have hF := hF.put hq_107 (hMP _ (.inr ⟨22, rfl, rfl⟩))
            refine lv_aload_n hx hb dX8_parseStatement_108 rfl (lv_at hl 2 rfl) ?_
            refine tw_geta 22 hx hb hts hown hKK hT rfl rfl (hts _ q2520) dX8_parseStatement_109 ?_
            refine lv_iload_n hx hb dX8_parseStatement_112 rfl (lv_at hl 0 rfl) ?_
            refine lv_iconst (v := nI 2) hx hb dX8_parseStatement_113 (by decide) ?_
            refine mm_iadd hx hb dX8_parseStatement_114 ?_
            refine lv_aload_n hx hb dX8_parseStatement_115 rfl (lv_at hl 2 rfl) ?_
            refine lv_iconst (v := nI 0) hx hb dX8_parseStatement_116 (by decide) ?_
            refine lv_bipush (v := nI 63) hx hb dX8_parseStatement_117 (by decide) ?_
            refine mm_ri (va_runV (As := [.int (nI 0), .int (nI 63)]) (rest := [.int (nI (4 * k9 + 2)), .ref (ad 22)]) ⟨hx, hb, hml, hown, hts⟩ (t_parseNumber l hT hX hP (by decide)) (cwV 2 hts (lw_V q2664 q2666 qs71 q164 q2667) rfl rfl rfl (by decide +kernel) ⟨Nat.le_of_ble_eq_true rfl, Nat.le_of_ble_eq_true rfl⟩) (mm_pV hKK (mm_rc hKK hT.2.1 mm_le.rf rfl)) rfl rfl hl.1 rfl (lv_room (Nat.le_of_ble_eq_true rfl)) dX8_parseStatement_119 ⟨Nat.le_of_ble_eq_true rfl, Nat.le_of_ble_eq_true rfl⟩) hS (mm_sS hS) (fun H_119 L_119 hB_119 hz_119 hq_119 hS => ?_)
            obtain ⟨I_119, hT, hx_119, hP⟩ := hB_119
            have hxi := hxi.tr (hx_119.mono (by decide))
            have hX : TX_ bt n I_119 ((tw_u (tw_u F 22 (4 * k9) (nI 0)) 22 (4 * k9 + 1) (nI v_104))) := ⟨(hx_119 13 (by decide)).trans hX.1, hX.2.1, hX.2.2⟩
            have hF := hF.keep hq_119 hMP
            have hk23 := (hx_119 23 (by decide)).trans hk23
            rcases hN_119 : pNum bt n q_104 63 with ⟨c_119, o_119⟩ | ⟨v_119, q_119⟩
            · have hP : PS bt n (.error (c_119, o_119)) I_119 := by have hP : PS bt n (p_pos (pNum bt n q_104 63)) I_119 := hP; rw [hN_119] at hP; exact hP
              have hce_56 := hP.1
              refine mm_top (y := nI 0) (by show nI (p_vN (pNum bt n q_104 63)) = _; rw [hN_119]; rfl) ?_
              refine tw_st 22 (k := (4 * k9 + 2)) hx hb hKK hT hS hMa rfl rfl (by show _ < 120; omega) dX8_parseStatement_122 (fun H_122 L_122 hT hz_122 hq_122 hS => ?_)
              have hX : TX_ bt n I_119 ((tw_u (tw_u (tw_u F 22 (4 * k9) (nI 0)) 22 (4 * k9 + 1) (nI v_104)) 22 (4 * k9 + 2) (nI 0))) := ⟨hX.1, hX.2.1, fun i hi => (congrFun (tw_uo (by decide)) i).trans (hX.2.2 i hi)⟩
              have hF := hF.put hq_122 (hMP _ (.inr ⟨22, rfl, rfl⟩))
              refine lv_aload_n hx hb dX8_parseStatement_123 rfl (lv_at hl 2 rfl) ?_
              refine tw_geta 22 hx hb hts hown hKK hT rfl rfl (hts _ q2520) dX8_parseStatement_124 ?_
              refine lv_iload_n hx hb dX8_parseStatement_127 rfl (lv_at hl 0 rfl) ?_
              refine lv_iconst (v := nI 3) hx hb dX8_parseStatement_128 (by decide) ?_
              refine mm_iadd hx hb dX8_parseStatement_129 ?_
              refine lv_aload_n hx hb dX8_parseStatement_130 rfl (lv_at hl 2 rfl) ?_
              refine lv_iconst (v := nI 1) hx hb dX8_parseStatement_131 (by decide) ?_
              refine mm_ri (va_runV (As := [.int (mm_b true)]) (rest := [.int (nI (4 * k9 + 3)), .ref (ad 22)]) ⟨hx, hb, hml, hown, hts⟩ (t_parseValue l hT hX hP hF hMP) (cwV 1 hts (lw_V q2659 q2661 qs70 q164 q2662) rfl rfl rfl (by decide +kernel) ⟨Nat.le_of_ble_eq_true rfl, Nat.le_of_ble_eq_true rfl⟩) (mm_pV hKK (mm_rc hKK hT.2.1 mm_le.rf rfl)) rfl rfl hl.1 rfl (lv_room (Nat.le_of_ble_eq_true rfl)) dX8_parseStatement_132 ⟨Nat.le_of_ble_eq_true rfl, Nat.le_of_ble_eq_true rfl⟩) hS (mm_sS hS) (fun H_132 L_132 hB_132 hz_132 hq_132 hS => ?_)
              obtain ⟨I_132, hT, hx_132, hP⟩ := hB_132
              have hxi := hxi.tr (hx_132.mono (by decide))
              have hX : TX_ bt n I_132 ((tw_u (tw_u (tw_u F 22 (4 * k9) (nI 0)) 22 (4 * k9 + 1) (nI v_104)) 22 (4 * k9 + 2) (nI 0))) := ⟨(hx_132 13 (by decide)).trans hX.1, hX.2.1, hX.2.2⟩
              have hF := hF.keep hq_132 hMP
              have hk23 := (hx_132 23 (by decide)).trans hk23
              have hP : PS bt n (.error (c_119, o_119)) I_132 := hP
              have hce_57 := hP.1
              refine mm_top (y := 0) rfl ?_
              refine tw_st 22 (k := (4 * k9 + 3)) hx hb hKK hT hS hMa rfl rfl (by show _ < 120; omega) dX8_parseStatement_135 (fun H_135 L_135 hT hz_135 hq_135 hS => ?_)
              have hX : TX_ bt n I_132 ((tw_u (tw_u (tw_u (tw_u F 22 (4 * k9) (nI 0)) 22 (4 * k9 + 1) (nI v_104)) 22 (4 * k9 + 2) (nI 0)) 22 (4 * k9 + 3) (0))) := ⟨hX.1, hX.2.1, fun i hi => (congrFun (tw_uo (by decide)) i).trans (hX.2.2 i hi)⟩
              have hF := hF.put hq_135 (hMP _ (.inr ⟨22, rfl, rfl⟩))
              refine lv_goto (tgt := 212) hx hb dX8_parseStatement_136 (by decide) ?_
              refine lv_aload_n hx hb dX8_parseStatement_212 rfl (lv_at hl 2 rfl) ?_
              refine mm_rv (va_runV (As := []) (rest := []) ⟨hx, hb, hml, hown, hts⟩ (t_parseSemicolon l hT hX hP) (cwV 0 hts (lw_V q2668 q2670 qs72 q164 q2671) rfl rfl rfl (by decide +kernel) ⟨Nat.le_of_ble_eq_true rfl, Nat.le_of_ble_eq_true rfl⟩) (mm_pV hKK (mm_rc hKK hT.2.1 mm_le.rf rfl)) rfl rfl hl.1 rfl (lv_room (Nat.le_of_ble_eq_true rfl)) dX8_parseStatement_213 ⟨Nat.le_of_ble_eq_true rfl, Nat.le_of_ble_eq_true rfl⟩) hS (mm_sS hS) (fun H_213 L_213 hB_213 hz_213 hq_213 hS => ?_)
              obtain ⟨I_213, hT, hx_213, hP⟩ := hB_213
              have hxi := hxi.tr (hx_213.mono (by decide))
              have hX : TX_ bt n I_213 ((tw_u (tw_u (tw_u (tw_u F 22 (4 * k9) (nI 0)) 22 (4 * k9 + 1) (nI v_104)) 22 (4 * k9 + 2) (nI 0)) 22 (4 * k9 + 3) (0))) := ⟨(hx_213 13 (by decide)).trans hX.1, hX.2.1, hX.2.2⟩
              have hF := hF.keep hq_213 hMP
              have hk23 := (hx_213 23 (by decide)).trans hk23
              have hP : PS bt n (.error (c_119, o_119)) I_213 := hP
              have hce_58 := hP.1
              refine lv_aload_n hx hb dX8_parseStatement_216 rfl (lv_at hl 2 rfl) ?_
              refine lv_dup hx hb dX8_parseStatement_217 rfl ?_
              refine tw_geti 23 (v := nI k9) hx hb hts hown hKK hT (by decide) rfl (hk23) (hts _ q2521) dX8_parseStatement_218 ?_
              refine lv_iconst (v := nI 1) hx hb dX8_parseStatement_221 (by decide) ?_
              refine mm_iadd hx hb dX8_parseStatement_222 ?_
              refine tw_put 23 hx hb hts hown hKK hT hS (hMx) (by decide) rfl (by decide) ⟨rfl, rfl⟩ (hts _ q2521) dX8_parseStatement_223 (fun H_223 L_223 hT hz_223 hq_223 hS => ?_)
              have hX : TX_ bt n ((upd I_213 23 (nI (k9 + 1)))) ((tw_u (tw_u (tw_u (tw_u F 22 (4 * k9) (nI 0)) 22 (4 * k9 + 1) (nI v_104)) 22 (4 * k9 + 2) (nI 0)) 22 (4 * k9 + 3) (0))) := ⟨(tw_un (by decide)).trans hX.1, hX.2⟩
              have hxi : exI [16, 17, 18, 19, 20, 21, 23] I ((upd I_213 23 (nI (k9 + 1)))) := hxi.tr (exI.u (by decide))
              have hF := hF.put hq_223 (hMP x (.inl rfl))
              have hP : PS bt n (.error (c_119, o_119)) ((upd I_213 23 (nI (k9 + 1)))) := hP.cg (fun j h1 h2 => tw_un (by omega))
              have hk23 : ((upd I_213 23 (nI (k9 + 1)))) 23 = nI (k9 + 1) := tw_up _ _ _
              exact mm_vret hx hb hr hlk hS (Nat.le_of_ble_eq_true rfl) (Nat.le_of_ble_eq_true rfl) (⟨rfl, _, _, hT, hxi, (((eqx.u (by decide)).tr (eqx.u (by decide))).tr (eqx.u (by decide))).tr (eqx.u (by decide)), by rw [pM_2 (e := (c_119, o_119)) hk_1 c_27 (by simp only [pArg, hN_104, hN_119])]; exact hP⟩) dX8_parseStatement_226
            · have hP : PS bt n (.ok q_119) I_119 := by have hP : PS bt n (p_pos (pNum bt n q_104 63)) I_119 := hP; rw [hN_119] at hP; exact hP
              have hbd_q_119 := tk_bd (b := bt) (show q_119 ≤ n from hP.1)
              have hle_119 := pNum_le hN_119
              refine mm_top (y := nI v_119) (by show nI (p_vN (pNum bt n q_104 63)) = _; rw [hN_119]; rfl) ?_
              refine tw_st 22 (k := (4 * k9 + 2)) hx hb hKK hT hS hMa rfl rfl (by show _ < 120; omega) dX8_parseStatement_122 (fun H_122 L_122 hT hz_122 hq_122 hS => ?_)
              have hX : TX_ bt n I_119 ((tw_u (tw_u (tw_u F 22 (4 * k9) (nI 0)) 22 (4 * k9 + 1) (nI v_104)) 22 (4 * k9 + 2) (nI v_119))) := ⟨hX.1, hX.2.1, fun i hi => (congrFun (tw_uo (by decide)) i).trans (hX.2.2 i hi)⟩
              have hF := hF.put hq_122 (hMP _ (.inr ⟨22, rfl, rfl⟩))
              refine lv_aload_n hx hb dX8_parseStatement_123 rfl (lv_at hl 2 rfl) ?_
              refine tw_geta 22 hx hb hts hown hKK hT rfl rfl (hts _ q2520) dX8_parseStatement_124 ?_
              refine lv_iload_n hx hb dX8_parseStatement_127 rfl (lv_at hl 0 rfl) ?_
              refine lv_iconst (v := nI 3) hx hb dX8_parseStatement_128 (by decide) ?_
              refine mm_iadd hx hb dX8_parseStatement_129 ?_
              refine lv_aload_n hx hb dX8_parseStatement_130 rfl (lv_at hl 2 rfl) ?_
              refine lv_iconst (v := nI 1) hx hb dX8_parseStatement_131 (by decide) ?_
              refine mm_ri (va_runV (As := [.int (mm_b true)]) (rest := [.int (nI (4 * k9 + 3)), .ref (ad 22)]) ⟨hx, hb, hml, hown, hts⟩ (t_parseValue l hT hX hP hF hMP) (cwV 1 hts (lw_V q2659 q2661 qs70 q164 q2662) rfl rfl rfl (by decide +kernel) ⟨Nat.le_of_ble_eq_true rfl, Nat.le_of_ble_eq_true rfl⟩) (mm_pV hKK (mm_rc hKK hT.2.1 mm_le.rf rfl)) rfl rfl hl.1 rfl (lv_room (Nat.le_of_ble_eq_true rfl)) dX8_parseStatement_132 ⟨Nat.le_of_ble_eq_true rfl, Nat.le_of_ble_eq_true rfl⟩) hS (mm_sS hS) (fun H_132 L_132 hB_132 hz_132 hq_132 hS => ?_)
              obtain ⟨I_132, hT, hx_132, hP⟩ := hB_132
              have hxi := hxi.tr (hx_132.mono (by decide))
              have hX : TX_ bt n I_132 ((tw_u (tw_u (tw_u F 22 (4 * k9) (nI 0)) 22 (4 * k9 + 1) (nI v_104)) 22 (4 * k9 + 2) (nI v_119))) := ⟨(hx_132 13 (by decide)).trans hX.1, hX.2.1, hX.2.2⟩
              have hF := hF.keep hq_132 hMP
              have hk23 := (hx_132 23 (by decide)).trans hk23
              rcases hN_132 : pVal bt n true q_119 with ⟨c_132, o_132⟩ | ⟨v_132, q_132⟩
              · have hP : PS bt n (.error (c_132, o_132)) I_132 := by have hP : PS bt n (p_pos (pVal bt n true q_119)) I_132 := hP; rw [hN_132] at hP; exact hP
                have hce_59 := hP.1
                refine mm_top (y := 0) (by show p_vI (pVal bt n true q_119) = _; rw [hN_132]; rfl) ?_
                refine tw_st 22 (k := (4 * k9 + 3)) hx hb hKK hT hS hMa rfl rfl (by show _ < 120; omega) dX8_parseStatement_135 (fun H_135 L_135 hT hz_135 hq_135 hS => ?_)
                have hX : TX_ bt n I_132 ((tw_u (tw_u (tw_u (tw_u F 22 (4 * k9) (nI 0)) 22 (4 * k9 + 1) (nI v_104)) 22 (4 * k9 + 2) (nI v_119)) 22 (4 * k9 + 3) (0))) := ⟨hX.1, hX.2.1, fun i hi => (congrFun (tw_uo (by decide)) i).trans (hX.2.2 i hi)⟩
                have hF := hF.put hq_135 (hMP _ (.inr ⟨22, rfl, rfl⟩))
                refine lv_goto (tgt := 212) hx hb dX8_parseStatement_136 (by decide) ?_
                refine lv_aload_n hx hb dX8_parseStatement_212 rfl (lv_at hl 2 rfl) ?_
                refine mm_rv (va_runV (As := []) (rest := []) ⟨hx, hb, hml, hown, hts⟩ (t_parseSemicolon l hT hX hP) (cwV 0 hts (lw_V q2668 q2670 qs72 q164 q2671) rfl rfl rfl (by decide +kernel) ⟨Nat.le_of_ble_eq_true rfl, Nat.le_of_ble_eq_true rfl⟩) (mm_pV hKK (mm_rc hKK hT.2.1 mm_le.rf rfl)) rfl rfl hl.1 rfl (lv_room (Nat.le_of_ble_eq_true rfl)) dX8_parseStatement_213 ⟨Nat.le_of_ble_eq_true rfl, Nat.le_of_ble_eq_true rfl⟩) hS (mm_sS hS) (fun H_213 L_213 hB_213 hz_213 hq_213 hS => ?_)
                obtain ⟨I_213, hT, hx_213, hP⟩ := hB_213
                have hxi := hxi.tr (hx_213.mono (by decide))
                have hX : TX_ bt n I_213 ((tw_u (tw_u (tw_u (tw_u F 22 (4 * k9) (nI 0)) 22 (4 * k9 + 1) (nI v_104)) 22 (4 * k9 + 2) (nI v_119)) 22 (4 * k9 + 3) (0))) := ⟨(hx_213 13 (by decide)).trans hX.1, hX.2.1, hX.2.2⟩
                have hF := hF.keep hq_213 hMP
                have hk23 := (hx_213 23 (by decide)).trans hk23
                have hP : PS bt n (.error (c_132, o_132)) I_213 := hP
                have hce_60 := hP.1
                refine lv_aload_n hx hb dX8_parseStatement_216 rfl (lv_at hl 2 rfl) ?_
                refine lv_dup hx hb dX8_parseStatement_217 rfl ?_
                refine tw_geti 23 (v := nI k9) hx hb hts hown hKK hT (by decide) rfl (hk23) (hts _ q2521) dX8_parseStatement_218 ?_
                refine lv_iconst (v := nI 1) hx hb dX8_parseStatement_221 (by decide) ?_
                refine mm_iadd hx hb dX8_parseStatement_222 ?_
                refine tw_put 23 hx hb hts hown hKK hT hS (hMx) (by decide) rfl (by decide) ⟨rfl, rfl⟩ (hts _ q2521) dX8_parseStatement_223 (fun H_223 L_223 hT hz_223 hq_223 hS => ?_)
                have hX : TX_ bt n ((upd I_213 23 (nI (k9 + 1)))) ((tw_u (tw_u (tw_u (tw_u F 22 (4 * k9) (nI 0)) 22 (4 * k9 + 1) (nI v_104)) 22 (4 * k9 + 2) (nI v_119)) 22 (4 * k9 + 3) (0))) := ⟨(tw_un (by decide)).trans hX.1, hX.2⟩
                have hxi : exI [16, 17, 18, 19, 20, 21, 23] I ((upd I_213 23 (nI (k9 + 1)))) := hxi.tr (exI.u (by decide))
                have hF := hF.put hq_223 (hMP x (.inl rfl))
                have hP : PS bt n (.error (c_132, o_132)) ((upd I_213 23 (nI (k9 + 1)))) := hP.cg (fun j h1 h2 => tw_un (by omega))
                have hk23 : ((upd I_213 23 (nI (k9 + 1)))) 23 = nI (k9 + 1) := tw_up _ _ _
                exact mm_vret hx hb hr hlk hS (Nat.le_of_ble_eq_true rfl) (Nat.le_of_ble_eq_true rfl) (⟨rfl, _, _, hT, hxi, (((eqx.u (by decide)).tr (eqx.u (by decide))).tr (eqx.u (by decide))).tr (eqx.u (by decide)), by rw [pM_2 (e := (c_132, o_132)) hk_1 c_27 (by simp only [pArg, hN_104, hN_119, hN_132])]; exact hP⟩) dX8_parseStatement_226
              · have hP : PS bt n (.ok q_132) I_132 := by have hP : PS bt n (p_pos (pVal bt n true q_119)) I_132 := hP; rw [hN_132] at hP; exact hP
                have hbd_q_132 := tk_bd (b := bt) (show q_132 ≤ n from hP.1)
                refine mm_top (y := v_132) (by show p_vI (pVal bt n true q_119) = _; rw [hN_132]; rfl) ?_
                refine tw_st 22 (k := (4 * k9 + 3)) hx hb hKK hT hS hMa rfl rfl (by show _ < 120; omega) dX8_parseStatement_135 (fun H_135 L_135 hT hz_135 hq_135 hS => ?_)
                have hX : TX_ bt n I_132 ((tw_u (tw_u (tw_u (tw_u F 22 (4 * k9) (nI 0)) 22 (4 * k9 + 1) (nI v_104)) 22 (4 * k9 + 2) (nI v_119)) 22 (4 * k9 + 3) (v_132))) := ⟨hX.1, hX.2.1, fun i hi => (congrFun (tw_uo (by decide)) i).trans (hX.2.2 i hi)⟩
                have hF := hF.put hq_135 (hMP _ (.inr ⟨22, rfl, rfl⟩))
                refine lv_goto (tgt := 212) hx hb dX8_parseStatement_136 (by decide) ?_
                refine lv_aload_n hx hb dX8_parseStatement_212 rfl (lv_at hl 2 rfl) ?_
                refine mm_rv (va_runV (As := []) (rest := []) ⟨hx, hb, hml, hown, hts⟩ (t_parseSemicolon l hT hX hP) (cwV 0 hts (lw_V q2668 q2670 qs72 q164 q2671) rfl rfl rfl (by decide +kernel) ⟨Nat.le_of_ble_eq_true rfl, Nat.le_of_ble_eq_true rfl⟩) (mm_pV hKK (mm_rc hKK hT.2.1 mm_le.rf rfl)) rfl rfl hl.1 rfl (lv_room (Nat.le_of_ble_eq_true rfl)) dX8_parseStatement_213 ⟨Nat.le_of_ble_eq_true rfl, Nat.le_of_ble_eq_true rfl⟩) hS (mm_sS hS) (fun H_213 L_213 hB_213 hz_213 hq_213 hS => ?_)
                obtain ⟨I_213, hT, hx_213, hP⟩ := hB_213
                have hxi := hxi.tr (hx_213.mono (by decide))
                have hX : TX_ bt n I_213 ((tw_u (tw_u (tw_u (tw_u F 22 (4 * k9) (nI 0)) 22 (4 * k9 + 1) (nI v_104)) 22 (4 * k9 + 2) (nI v_119)) 22 (4 * k9 + 3) (v_132))) := ⟨(hx_213 13 (by decide)).trans hX.1, hX.2.1, hX.2.2⟩
                have hF := hF.keep hq_213 hMP
                have hk23 := (hx_213 23 (by decide)).trans hk23
                rcases hN_213 : pSem bt n q_132 with ⟨c_213, o_213⟩ | q_213
                · have hP : PS bt n (.error (c_213, o_213)) I_213 := by have hP : PS bt n (pSem bt n q_132) I_213 := hP; rw [hN_213] at hP; exact hP
                  have hce_61 := hP.1
                  refine lv_aload_n hx hb dX8_parseStatement_216 rfl (lv_at hl 2 rfl) ?_
                  refine lv_dup hx hb dX8_parseStatement_217 rfl ?_
                  refine tw_geti 23 (v := nI k9) hx hb hts hown hKK hT (by decide) rfl (hk23) (hts _ q2521) dX8_parseStatement_218 ?_
                  refine lv_iconst (v := nI 1) hx hb dX8_parseStatement_221 (by decide) ?_
                  refine mm_iadd hx hb dX8_parseStatement_222 ?_
                  refine tw_put 23 hx hb hts hown hKK hT hS (hMx) (by decide) rfl (by decide) ⟨rfl, rfl⟩ (hts _ q2521) dX8_parseStatement_223 (fun H_223 L_223 hT hz_223 hq_223 hS => ?_)
                  have hX : TX_ bt n ((upd I_213 23 (nI (k9 + 1)))) ((tw_u (tw_u (tw_u (tw_u F 22 (4 * k9) (nI 0)) 22 (4 * k9 + 1) (nI v_104)) 22 (4 * k9 + 2) (nI v_119)) 22 (4 * k9 + 3) (v_132))) := ⟨(tw_un (by decide)).trans hX.1, hX.2⟩
                  have hxi : exI [16, 17, 18, 19, 20, 21, 23] I ((upd I_213 23 (nI (k9 + 1)))) := hxi.tr (exI.u (by decide))
                  have hF := hF.put hq_223 (hMP x (.inl rfl))
                  have hP : PS bt n (.error (c_213, o_213)) ((upd I_213 23 (nI (k9 + 1)))) := hP.cg (fun j h1 h2 => tw_un (by omega))
                  have hk23 : ((upd I_213 23 (nI (k9 + 1)))) 23 = nI (k9 + 1) := tw_up _ _ _
                  exact mm_vret hx hb hr hlk hS (Nat.le_of_ble_eq_true rfl) (Nat.le_of_ble_eq_true rfl) (⟨rfl, _, _, hT, hxi, (((eqx.u (by decide)).tr (eqx.u (by decide))).tr (eqx.u (by decide))).tr (eqx.u (by decide)), by rw [pM_3 (x := (0, v_104, v_119, v_132)) (q := q_132) hk_1 c_27 (by simp only [pArg, hN_104, hN_119, hN_132]) hN_213]; exact hP⟩) dX8_parseStatement_226
                · have hP : PS bt n (.ok q_213) I_213 := by have hP : PS bt n (pSem bt n q_132) I_213 := hP; rw [hN_213] at hP; exact hP
                  have hbd_q_213 := tk_bd (b := bt) (show q_213 ≤ n from hP.1)
                  refine lv_aload_n hx hb dX8_parseStatement_216 rfl (lv_at hl 2 rfl) ?_
                  refine lv_dup hx hb dX8_parseStatement_217 rfl ?_
                  refine tw_geti 23 (v := nI k9) hx hb hts hown hKK hT (by decide) rfl (hk23) (hts _ q2521) dX8_parseStatement_218 ?_
                  refine lv_iconst (v := nI 1) hx hb dX8_parseStatement_221 (by decide) ?_
                  refine mm_iadd hx hb dX8_parseStatement_222 ?_
                  refine tw_put 23 hx hb hts hown hKK hT hS (hMx) (by decide) rfl (by decide) ⟨rfl, rfl⟩ (hts _ q2521) dX8_parseStatement_223 (fun H_223 L_223 hT hz_223 hq_223 hS => ?_)
                  have hX : TX_ bt n ((upd I_213 23 (nI (k9 + 1)))) ((tw_u (tw_u (tw_u (tw_u F 22 (4 * k9) (nI 0)) 22 (4 * k9 + 1) (nI v_104)) 22 (4 * k9 + 2) (nI v_119)) 22 (4 * k9 + 3) (v_132))) := ⟨(tw_un (by decide)).trans hX.1, hX.2⟩
                  have hxi : exI [16, 17, 18, 19, 20, 21, 23] I ((upd I_213 23 (nI (k9 + 1)))) := hxi.tr (exI.u (by decide))
                  have hF := hF.put hq_223 (hMP x (.inl rfl))
                  have hP : PS bt n (.ok q_213) ((upd I_213 23 (nI (k9 + 1)))) := hP.cg (fun j h1 h2 => tw_un (by omega))
                  have hk23 : ((upd I_213 23 (nI (k9 + 1)))) 23 = nI (k9 + 1) := tw_up _ _ _
                  exact mm_vret hx hb hr hlk hS (Nat.le_of_ble_eq_true rfl) (Nat.le_of_ble_eq_true rfl) (⟨rfl, _, _, hT, hxi, (((eqx.u (by decide)).tr (eqx.u (by decide))).tr (eqx.u (by decide))).tr (eqx.u (by decide)), by rw [pM_4 (x := (0, v_104, v_119, v_132)) (q := q_132) hk_1 c_27 (by simp only [pArg, hN_104, hN_119, hN_132]) hN_213]; exact ⟨hP, hk23, ⟨(show 0 ≤ 4 by decide), by repeat (first | exact su_s | refine (su_n (by omega)).trans ?_), fun _ => by repeat (first | exact su_s | refine (su_n (by omega)).trans ?_), fun _ => by repeat (first | exact su_s | refine (su_n (by omega)).trans ?_), fun h => absurd (show (0 : Nat) = 1 from h) (by decide), fun _ => by repeat (first | exact su_s | refine (su_n (by omega)).trans ?_)⟩, fun j hj => by (repeat (refine (su_n (by omega)).trans ?_)); rfl⟩⟩) dX8_parseStatement_226
        · exact absurd c_47 (by decide)
  · refine mm_top (y := nI 1) (by rw [hk_1]; rfl) ?_
    refine lv_istore_n (lv' := [(1, .int (nI 1)), (0, .ref x)]) hx hb dX8_parseStatement_4 rfl hl (by decide) rfl (fun ls hl => ?_)
    refine lv_aload_n hx hb dX8_parseStatement_5 rfl (lv_at hl 1 rfl) ?_
    refine lv_iload_n hx hb dX8_parseStatement_6 rfl (lv_at hl 0 rfl) ?_
    refine lv_iconst (v := (-1)) hx hb dX8_parseStatement_7 (by decide) ?_
    refine lv_icmp_eq (tgt := 15) hx hb dX8_parseStatement_8 (by decide) (fun c_8 => ?_) (fun c_8 => ?_)
    · exact absurd c_8 (by decide)
    · refine lv_iconst (v := nI 1) hx hb dX8_parseStatement_11 (by decide) ?_
      refine mm_top (y := mm_b true) rfl ?_
      refine lv_goto (tgt := 16) hx hb dX8_parseStatement_12 (by decide) ?_
      refine lv_iconst (v := nI 1) hx hb dX8_parseStatement_16 (by decide) ?_
      refine mm_rv (va_runV (As := [.int (mm_b true), .int (nI 1)]) (rest := []) ⟨hx, hb, hml, hown, hts⟩ (t_expect l hT hX hP (by decide) (by decide)) (cwV 2 hts (lw_V q2655 q2657 qs69 q164 q2658) rfl rfl rfl (by decide +kernel) ⟨Nat.le_of_ble_eq_true rfl, Nat.le_of_ble_eq_true rfl⟩) (mm_pV hKK (mm_rc hKK hT.2.1 mm_le.rf rfl)) rfl rfl hl.1 rfl (lv_room (Nat.le_of_ble_eq_true rfl)) dX8_parseStatement_17 ⟨Nat.le_of_ble_eq_true rfl, Nat.le_of_ble_eq_true rfl⟩) hS (mm_sS hS) (fun H_17 L_17 hB_17 hz_17 hq_17 hS => ?_)
      obtain ⟨I_17, hT, hx_17, hP⟩ := hB_17
      have hxi := hxi.tr (hx_17.mono (by decide))
      have hX : TX_ bt n I_17 F := ⟨(hx_17 13 (by decide)).trans hX.1, hX.2.1, hX.2.2⟩
      have hF := hF.keep hq_17 hMP
      have hk23 := (hx_17 23 (by decide)).trans hk23
      have hP : PS bt n (.ok p9) I_17 := hP
      have hbd_p9 := tk_bd (b := bt) (show p9 ≤ n from hP.1)
      refine lv_aload_n hx hb dX8_parseStatement_20 rfl (lv_at hl 1 rfl) ?_
      refine lv_aload_n hx hb dX8_parseStatement_21 rfl (lv_at hl 1 rfl) ?_
      refine tw_geti 23 (v := nI k9) hx hb hts hown hKK hT (by decide) rfl (hk23) (hts _ q2521) dX8_parseStatement_22 ?_
      refine lv_bipush (v := nI 30) hx hb dX8_parseStatement_25 (by decide) ?_
      refine mm_icmp_ge (tgt := 34) (by omega) (by omega) hx hb dX8_parseStatement_27 (by decide) (fun c_27 => ?_) (fun c_27 => ?_)
      · refine lv_iconst (v := nI 0) hx hb dX8_parseStatement_34 (by decide) ?_
        refine mm_top (y := mm_b false) rfl ?_
        refine lv_iconst (v := nI 3) hx hb dX8_parseStatement_35 (by decide) ?_
        refine mm_rv (va_runV (As := [.int (mm_b false), .int (nI 3)]) (rest := []) ⟨hx, hb, hml, hown, hts⟩ (t_expect l hT hX hP (by decide) (by decide)) (cwV 2 hts (lw_V q2655 q2657 qs69 q164 q2658) rfl rfl rfl (by decide +kernel) ⟨Nat.le_of_ble_eq_true rfl, Nat.le_of_ble_eq_true rfl⟩) (mm_pV hKK (mm_rc hKK hT.2.1 mm_le.rf rfl)) rfl rfl hl.1 rfl (lv_room (Nat.le_of_ble_eq_true rfl)) dX8_parseStatement_36 ⟨Nat.le_of_ble_eq_true rfl, Nat.le_of_ble_eq_true rfl⟩) hS (mm_sS hS) (fun H_36 L_36 hB_36 hz_36 hq_36 hS => ?_)
        obtain ⟨I_36, hT, hx_36, hP⟩ := hB_36
        have hxi := hxi.tr (hx_36.mono (by decide))
        have hX : TX_ bt n I_36 F := ⟨(hx_36 13 (by decide)).trans hX.1, hX.2.1, hX.2.2⟩
        have hF := hF.keep hq_36 hMP
        have hk23 := (hx_36 23 (by decide)).trans hk23
        have hP : PS bt n (.error (3, tkS bt n p9)) I_36 := hP
        have hce_62 := hP.1
        refine lv_aload_n hx hb dX8_parseStatement_39 rfl (lv_at hl 1 rfl) ?_
        refine mm_rv (va_runV (As := []) (rest := []) ⟨hx, hb, hml, hown, hts⟩ (t_advance l hT hX hP) (cwV 0 hts (lw_V q2618 q2620 qs64 q164 q2621) rfl rfl rfl (by decide +kernel) ⟨Nat.le_of_ble_eq_true rfl, Nat.le_of_ble_eq_true rfl⟩) (mm_pV hKK (mm_rc hKK hT.2.1 mm_le.rf rfl)) rfl rfl hl.1 rfl (lv_room (Nat.le_of_ble_eq_true rfl)) dX8_parseStatement_40 ⟨Nat.le_of_ble_eq_true rfl, Nat.le_of_ble_eq_true rfl⟩) hS (mm_sS hS) (fun H_40 L_40 hB_40 hz_40 hq_40 hS => ?_)
        obtain ⟨I_40, hT, hx_40, hP⟩ := hB_40
        have hxi := hxi.tr (hx_40.mono (by decide))
        have hX : TX_ bt n I_40 F := ⟨(hx_40 13 (by decide)).trans hX.1, hX.2.1, hX.2.2⟩
        have hF := hF.keep hq_40 hMP
        have hk23 := (hx_40 23 (by decide)).trans hk23
        have hP : PS bt n (.error (3, tkS bt n p9)) I_40 := hP
        have hce_63 := hP.1
        refine lv_aload_n hx hb dX8_parseStatement_43 rfl (lv_at hl 1 rfl) ?_
        refine tw_geti 20 (v := nI 3) hx hb hts hown hKK hT (by decide) rfl (hP.2.1) (hts _ q2518) dX8_parseStatement_44 ?_
        refine mm_if_le (tgt := 51) (by omega) hx hb dX8_parseStatement_47 (by decide) (fun c_47 => ?_) (fun c_47 => ?_)
        · exact absurd c_47 (by decide)
        · exact mm_vret hx hb hr hlk hS (Nat.le_of_ble_eq_true rfl) (Nat.le_of_ble_eq_true rfl) (⟨rfl, _, F, hT, hxi, eqx.rf, by rw [pM_1 hk_1 (by omega)]; exact hP⟩) dX8_parseStatement_50
      · refine lv_iconst (v := nI 1) hx hb dX8_parseStatement_30 (by decide) ?_
        refine mm_top (y := mm_b true) rfl ?_
        refine lv_goto (tgt := 35) hx hb dX8_parseStatement_31 (by decide) ?_
        refine lv_iconst (v := nI 3) hx hb dX8_parseStatement_35 (by decide) ?_
        refine mm_rv (va_runV (As := [.int (mm_b true), .int (nI 3)]) (rest := []) ⟨hx, hb, hml, hown, hts⟩ (t_expect l hT hX hP (by decide) (by decide)) (cwV 2 hts (lw_V q2655 q2657 qs69 q164 q2658) rfl rfl rfl (by decide +kernel) ⟨Nat.le_of_ble_eq_true rfl, Nat.le_of_ble_eq_true rfl⟩) (mm_pV hKK (mm_rc hKK hT.2.1 mm_le.rf rfl)) rfl rfl hl.1 rfl (lv_room (Nat.le_of_ble_eq_true rfl)) dX8_parseStatement_36 ⟨Nat.le_of_ble_eq_true rfl, Nat.le_of_ble_eq_true rfl⟩) hS (mm_sS hS) (fun H_36 L_36 hB_36 hz_36 hq_36 hS => ?_)
        obtain ⟨I_36, hT, hx_36, hP⟩ := hB_36
        have hxi := hxi.tr (hx_36.mono (by decide))
        have hX : TX_ bt n I_36 F := ⟨(hx_36 13 (by decide)).trans hX.1, hX.2.1, hX.2.2⟩
        have hF := hF.keep hq_36 hMP
        have hk23 := (hx_36 23 (by decide)).trans hk23
        have hP : PS bt n (.ok p9) I_36 := hP
        have hbd_p9 := tk_bd (b := bt) (show p9 ≤ n from hP.1)
        refine lv_aload_n hx hb dX8_parseStatement_39 rfl (lv_at hl 1 rfl) ?_
        refine mm_rv (va_runV (As := []) (rest := []) ⟨hx, hb, hml, hown, hts⟩ (t_advance l hT hX hP) (cwV 0 hts (lw_V q2618 q2620 qs64 q164 q2621) rfl rfl rfl (by decide +kernel) ⟨Nat.le_of_ble_eq_true rfl, Nat.le_of_ble_eq_true rfl⟩) (mm_pV hKK (mm_rc hKK hT.2.1 mm_le.rf rfl)) rfl rfl hl.1 rfl (lv_room (Nat.le_of_ble_eq_true rfl)) dX8_parseStatement_40 ⟨Nat.le_of_ble_eq_true rfl, Nat.le_of_ble_eq_true rfl⟩) hS (mm_sS hS) (fun H_40 L_40 hB_40 hz_40 hq_40 hS => ?_)
        obtain ⟨I_40, hT, hx_40, hP⟩ := hB_40
        have hxi := hxi.tr (hx_40.mono (by decide))
        have hX : TX_ bt n I_40 F := ⟨(hx_40 13 (by decide)).trans hX.1, hX.2.1, hX.2.2⟩
        have hF := hF.keep hq_40 hMP
        have hk23 := (hx_40 23 (by decide)).trans hk23
        have hP : PS bt n (.ok (tkE bt n p9)) I_40 := hP
        have hbd_tkE_bt_n_p9 := tk_bd (b := bt) (show tkE bt n p9 ≤ n from hP.1)
        refine lv_aload_n hx hb dX8_parseStatement_43 rfl (lv_at hl 1 rfl) ?_
        refine tw_geti 20 (v := nI 0) hx hb hts hown hKK hT (by decide) rfl (hP.2.1) (hts _ q2518) dX8_parseStatement_44 ?_
        refine mm_if_le (tgt := 51) (by omega) hx hb dX8_parseStatement_47 (by decide) (fun c_47 => ?_) (fun c_47 => ?_)
        · refine lv_iconst (v := nI 4) hx hb dX8_parseStatement_51 (by decide) ?_
          refine lv_aload_n hx hb dX8_parseStatement_52 rfl (lv_at hl 1 rfl) ?_
          refine tw_geti 23 (v := nI k9) hx hb hts hown hKK hT (by decide) rfl (hk23) (hts _ q2521) dX8_parseStatement_53 ?_
          refine mm_imul hx hb dX8_parseStatement_56 ?_
          refine lv_istore_n (lv' := [(2, .int (nI (4 * k9))), (1, .int (nI 1)), (0, .ref x)]) hx hb dX8_parseStatement_57 rfl hl (by decide) rfl (fun ls hl => ?_)
          refine lv_aload_n hx hb dX8_parseStatement_58 rfl (lv_at hl 2 rfl) ?_
          refine tw_geta 22 hx hb hts hown hKK hT rfl rfl (hts _ q2520) dX8_parseStatement_59 ?_
          refine lv_iload_n hx hb dX8_parseStatement_62 rfl (lv_at hl 0 rfl) ?_
          refine lv_iload_n hx hb dX8_parseStatement_63 rfl (lv_at hl 1 rfl) ?_
          refine tw_st 22 (k := (4 * k9)) hx hb hKK hT hS hMa rfl rfl (by show _ < 120; omega) dX8_parseStatement_64 (fun H_64 L_64 hT hz_64 hq_64 hS => ?_)
          have hX : TX_ bt n I_40 ((tw_u F 22 (4 * k9) (nI 1))) := ⟨hX.1, hX.2.1, fun i hi => (congrFun (tw_uo (by decide)) i).trans (hX.2.2 i hi)⟩
          have hF := hF.put hq_64 (hMP _ (.inr ⟨22, rfl, rfl⟩))
          refine lv_iload_n hx hb dX8_parseStatement_65 rfl (lv_at hl 1 rfl) ?_
          refine lv_tableIn (off := 73) (tgt := 139) hx hb dX8_parseStatement_66 (by decide) (by decide) (by rfl) (by decide) ?_
          refine lv_aload_n hx hb dX8_parseStatement_139 rfl (lv_at hl 2 rfl) ?_
          refine tw_geta 22 hx hb hts hown hKK hT rfl rfl (hts _ q2520) dX8_parseStatement_140 ?_
          refine lv_iload_n hx hb dX8_parseStatement_143 rfl (lv_at hl 0 rfl) ?_
          refine lv_iconst (v := nI 1) hx hb dX8_parseStatement_144 (by decide) ?_
          refine mm_iadd hx hb dX8_parseStatement_145 ?_
          refine lv_aload_n hx hb dX8_parseStatement_146 rfl (lv_at hl 2 rfl) ?_
          refine mm_ri (va_runV (As := []) (rest := [.int (nI (4 * k9 + 1)), .ref (ad 22)]) ⟨hx, hb, hml, hown, hts⟩ (t_parseVersion l hT hX hP) (cwV 0 hts (lw_V q2693 q2695 qs76 q164 q2696) rfl rfl rfl (by decide +kernel) ⟨Nat.le_of_ble_eq_true rfl, Nat.le_of_ble_eq_true rfl⟩) (mm_pV hKK (mm_rc hKK hT.2.1 mm_le.rf rfl)) rfl rfl hl.1 rfl (lv_room (Nat.le_of_ble_eq_true rfl)) dX8_parseStatement_147 ⟨Nat.le_of_ble_eq_true rfl, Nat.le_of_ble_eq_true rfl⟩) hS (mm_sS hS) (fun H_147 L_147 hB_147 hz_147 hq_147 hS => ?_)
          obtain ⟨I_147, hT, hx_147, hP⟩ := hB_147
          have hxi := hxi.tr (hx_147.mono (by decide))
          have hX : TX_ bt n I_147 ((tw_u F 22 (4 * k9) (nI 1))) := ⟨(hx_147 13 (by decide)).trans hX.1, hX.2.1, hX.2.2⟩
          have hF := hF.keep hq_147 hMP
          have hk23 := (hx_147 23 (by decide)).trans hk23
          rcases hN_147 : pNum bt n (tkE bt n p9) 39 with ⟨c_147, o_147⟩ | ⟨v_147, q_147⟩
          · have hP : PS bt n (.error (c_147, o_147)) I_147 := by have hP : PS bt n (p_pos (pNum bt n (tkE bt n p9) 39)) I_147 := hP; rw [hN_147] at hP; exact hP
            have hce_64 := hP.1
            refine mm_top (y := nI 0) (by show nI (p_vN (pNum bt n (tkE bt n p9) 39)) = _; rw [hN_147]; rfl) ?_
            refine tw_st 22 (k := (4 * k9 + 1)) hx hb hKK hT hS hMa rfl rfl (by show _ < 120; omega) dX8_parseStatement_150 (fun H_150 L_150 hT hz_150 hq_150 hS => ?_)
            have hX : TX_ bt n I_147 ((tw_u (tw_u F 22 (4 * k9) (nI 1)) 22 (4 * k9 + 1) (nI 0))) := ⟨hX.1, hX.2.1, fun i hi => (congrFun (tw_uo (by decide)) i).trans (hX.2.2 i hi)⟩
            have hF := hF.put hq_150 (hMP _ (.inr ⟨22, rfl, rfl⟩))
            refine lv_aload_n hx hb dX8_parseStatement_151 rfl (lv_at hl 2 rfl) ?_
            refine tw_geta 22 hx hb hts hown hKK hT rfl rfl (hts _ q2520) dX8_parseStatement_152 ?_
            refine lv_iload_n hx hb dX8_parseStatement_155 rfl (lv_at hl 0 rfl) ?_
            refine lv_iconst (v := nI 2) hx hb dX8_parseStatement_156 (by decide) ?_
            refine mm_iadd hx hb dX8_parseStatement_157 ?_
            refine lv_aload_n hx hb dX8_parseStatement_158 rfl (lv_at hl 2 rfl) ?_
            refine lv_iconst (v := nI 1) hx hb dX8_parseStatement_159 (by decide) ?_
            refine mm_ri (va_runV (As := [.int (mm_b true)]) (rest := [.int (nI (4 * k9 + 2)), .ref (ad 22)]) ⟨hx, hb, hml, hown, hts⟩ (t_parseValue l hT hX hP hF hMP) (cwV 1 hts (lw_V q2659 q2661 qs70 q164 q2662) rfl rfl rfl (by decide +kernel) ⟨Nat.le_of_ble_eq_true rfl, Nat.le_of_ble_eq_true rfl⟩) (mm_pV hKK (mm_rc hKK hT.2.1 mm_le.rf rfl)) rfl rfl hl.1 rfl (lv_room (Nat.le_of_ble_eq_true rfl)) dX8_parseStatement_160 ⟨Nat.le_of_ble_eq_true rfl, Nat.le_of_ble_eq_true rfl⟩) hS (mm_sS hS) (fun H_160 L_160 hB_160 hz_160 hq_160 hS => ?_)
            obtain ⟨I_160, hT, hx_160, hP⟩ := hB_160
            have hxi := hxi.tr (hx_160.mono (by decide))
            have hX : TX_ bt n I_160 ((tw_u (tw_u F 22 (4 * k9) (nI 1)) 22 (4 * k9 + 1) (nI 0))) := ⟨(hx_160 13 (by decide)).trans hX.1, hX.2.1, hX.2.2⟩
            have hF := hF.keep hq_160 hMP
            have hk23 := (hx_160 23 (by decide)).trans hk23
            have hP : PS bt n (.error (c_147, o_147)) I_160 := hP
            have hce_65 := hP.1
            refine mm_top (y := 0) rfl ?_
            refine tw_st 22 (k := (4 * k9 + 2)) hx hb hKK hT hS hMa rfl rfl (by show _ < 120; omega) dX8_parseStatement_163 (fun H_163 L_163 hT hz_163 hq_163 hS => ?_)
            have hX : TX_ bt n I_160 ((tw_u (tw_u (tw_u F 22 (4 * k9) (nI 1)) 22 (4 * k9 + 1) (nI 0)) 22 (4 * k9 + 2) (0))) := ⟨hX.1, hX.2.1, fun i hi => (congrFun (tw_uo (by decide)) i).trans (hX.2.2 i hi)⟩
            have hF := hF.put hq_163 (hMP _ (.inr ⟨22, rfl, rfl⟩))
            refine lv_goto (tgt := 212) hx hb dX8_parseStatement_164 (by decide) ?_
            refine lv_aload_n hx hb dX8_parseStatement_212 rfl (lv_at hl 2 rfl) ?_
            refine mm_rv (va_runV (As := []) (rest := []) ⟨hx, hb, hml, hown, hts⟩ (t_parseSemicolon l hT hX hP) (cwV 0 hts (lw_V q2668 q2670 qs72 q164 q2671) rfl rfl rfl (by decide +kernel) ⟨Nat.le_of_ble_eq_true rfl, Nat.le_of_ble_eq_true rfl⟩) (mm_pV hKK (mm_rc hKK hT.2.1 mm_le.rf rfl)) rfl rfl hl.1 rfl (lv_room (Nat.le_of_ble_eq_true rfl)) dX8_parseStatement_213 ⟨Nat.le_of_ble_eq_true rfl, Nat.le_of_ble_eq_true rfl⟩) hS (mm_sS hS) (fun H_213 L_213 hB_213 hz_213 hq_213 hS => ?_)
            obtain ⟨I_213, hT, hx_213, hP⟩ := hB_213
            have hxi := hxi.tr (hx_213.mono (by decide))
            have hX : TX_ bt n I_213 ((tw_u (tw_u (tw_u F 22 (4 * k9) (nI 1)) 22 (4 * k9 + 1) (nI 0)) 22 (4 * k9 + 2) (0))) := ⟨(hx_213 13 (by decide)).trans hX.1, hX.2.1, hX.2.2⟩
            have hF := hF.keep hq_213 hMP
            have hk23 := (hx_213 23 (by decide)).trans hk23
            have hP : PS bt n (.error (c_147, o_147)) I_213 := hP
            have hce_66 := hP.1
            refine lv_aload_n hx hb dX8_parseStatement_216 rfl (lv_at hl 2 rfl) ?_
            refine lv_dup hx hb dX8_parseStatement_217 rfl ?_
            refine tw_geti 23 (v := nI k9) hx hb hts hown hKK hT (by decide) rfl (hk23) (hts _ q2521) dX8_parseStatement_218 ?_
            refine lv_iconst (v := nI 1) hx hb dX8_parseStatement_221 (by decide) ?_
            refine mm_iadd hx hb dX8_parseStatement_222 ?_
            refine tw_put 23 hx hb hts hown hKK hT hS (hMx) (by decide) rfl (by decide) ⟨rfl, rfl⟩ (hts _ q2521) dX8_parseStatement_223 (fun H_223 L_223 hT hz_223 hq_223 hS => ?_)
            have hX : TX_ bt n ((upd I_213 23 (nI (k9 + 1)))) ((tw_u (tw_u (tw_u F 22 (4 * k9) (nI 1)) 22 (4 * k9 + 1) (nI 0)) 22 (4 * k9 + 2) (0))) := ⟨(tw_un (by decide)).trans hX.1, hX.2⟩
            have hxi : exI [16, 17, 18, 19, 20, 21, 23] I ((upd I_213 23 (nI (k9 + 1)))) := hxi.tr (exI.u (by decide))
            have hF := hF.put hq_223 (hMP x (.inl rfl))
            have hP : PS bt n (.error (c_147, o_147)) ((upd I_213 23 (nI (k9 + 1)))) := hP.cg (fun j h1 h2 => tw_un (by omega))
            have hk23 : ((upd I_213 23 (nI (k9 + 1)))) 23 = nI (k9 + 1) := tw_up _ _ _
            exact mm_vret hx hb hr hlk hS (Nat.le_of_ble_eq_true rfl) (Nat.le_of_ble_eq_true rfl) (⟨rfl, _, _, hT, hxi, ((eqx.u (by decide)).tr (eqx.u (by decide))).tr (eqx.u (by decide)), by rw [pM_2 (e := (c_147, o_147)) hk_1 c_27 (by simp only [pArg, hN_147])]; exact hP⟩) dX8_parseStatement_226
          · have hP : PS bt n (.ok q_147) I_147 := by have hP : PS bt n (p_pos (pNum bt n (tkE bt n p9) 39)) I_147 := hP; rw [hN_147] at hP; exact hP
            have hbd_q_147 := tk_bd (b := bt) (show q_147 ≤ n from hP.1)
            have hle_147 := pNum_le hN_147
            refine mm_top (y := nI v_147) (by show nI (p_vN (pNum bt n (tkE bt n p9) 39)) = _; rw [hN_147]; rfl) ?_
            refine tw_st 22 (k := (4 * k9 + 1)) hx hb hKK hT hS hMa rfl rfl (by show _ < 120; omega) dX8_parseStatement_150 (fun H_150 L_150 hT hz_150 hq_150 hS => ?_)
            have hX : TX_ bt n I_147 ((tw_u (tw_u F 22 (4 * k9) (nI 1)) 22 (4 * k9 + 1) (nI v_147))) := ⟨hX.1, hX.2.1, fun i hi => (congrFun (tw_uo (by decide)) i).trans (hX.2.2 i hi)⟩
            have hF := hF.put hq_150 (hMP _ (.inr ⟨22, rfl, rfl⟩))
            refine lv_aload_n hx hb dX8_parseStatement_151 rfl (lv_at hl 2 rfl) ?_
            refine tw_geta 22 hx hb hts hown hKK hT rfl rfl (hts _ q2520) dX8_parseStatement_152 ?_
            refine lv_iload_n hx hb dX8_parseStatement_155 rfl (lv_at hl 0 rfl) ?_
            refine lv_iconst (v := nI 2) hx hb dX8_parseStatement_156 (by decide) ?_
            refine mm_iadd hx hb dX8_parseStatement_157 ?_
            refine lv_aload_n hx hb dX8_parseStatement_158 rfl (lv_at hl 2 rfl) ?_
            refine lv_iconst (v := nI 1) hx hb dX8_parseStatement_159 (by decide) ?_
            refine mm_ri (va_runV (As := [.int (mm_b true)]) (rest := [.int (nI (4 * k9 + 2)), .ref (ad 22)]) ⟨hx, hb, hml, hown, hts⟩ (t_parseValue l hT hX hP hF hMP) (cwV 1 hts (lw_V q2659 q2661 qs70 q164 q2662) rfl rfl rfl (by decide +kernel) ⟨Nat.le_of_ble_eq_true rfl, Nat.le_of_ble_eq_true rfl⟩) (mm_pV hKK (mm_rc hKK hT.2.1 mm_le.rf rfl)) rfl rfl hl.1 rfl (lv_room (Nat.le_of_ble_eq_true rfl)) dX8_parseStatement_160 ⟨Nat.le_of_ble_eq_true rfl, Nat.le_of_ble_eq_true rfl⟩) hS (mm_sS hS) (fun H_160 L_160 hB_160 hz_160 hq_160 hS => ?_)
            obtain ⟨I_160, hT, hx_160, hP⟩ := hB_160
            have hxi := hxi.tr (hx_160.mono (by decide))
            have hX : TX_ bt n I_160 ((tw_u (tw_u F 22 (4 * k9) (nI 1)) 22 (4 * k9 + 1) (nI v_147))) := ⟨(hx_160 13 (by decide)).trans hX.1, hX.2.1, hX.2.2⟩
            have hF := hF.keep hq_160 hMP
            have hk23 := (hx_160 23 (by decide)).trans hk23
            rcases hN_160 : pVal bt n true q_147 with ⟨c_160, o_160⟩ | ⟨v_160, q_160⟩
            · have hP : PS bt n (.error (c_160, o_160)) I_160 := by have hP : PS bt n (p_pos (pVal bt n true q_147)) I_160 := hP; rw [hN_160] at hP; exact hP
              have hce_67 := hP.1
              refine mm_top (y := 0) (by show p_vI (pVal bt n true q_147) = _; rw [hN_160]; rfl) ?_
              refine tw_st 22 (k := (4 * k9 + 2)) hx hb hKK hT hS hMa rfl rfl (by show _ < 120; omega) dX8_parseStatement_163 (fun H_163 L_163 hT hz_163 hq_163 hS => ?_)
              have hX : TX_ bt n I_160 ((tw_u (tw_u (tw_u F 22 (4 * k9) (nI 1)) 22 (4 * k9 + 1) (nI v_147)) 22 (4 * k9 + 2) (0))) := ⟨hX.1, hX.2.1, fun i hi => (congrFun (tw_uo (by decide)) i).trans (hX.2.2 i hi)⟩
              have hF := hF.put hq_163 (hMP _ (.inr ⟨22, rfl, rfl⟩))
              refine lv_goto (tgt := 212) hx hb dX8_parseStatement_164 (by decide) ?_
              refine lv_aload_n hx hb dX8_parseStatement_212 rfl (lv_at hl 2 rfl) ?_
              refine mm_rv (va_runV (As := []) (rest := []) ⟨hx, hb, hml, hown, hts⟩ (t_parseSemicolon l hT hX hP) (cwV 0 hts (lw_V q2668 q2670 qs72 q164 q2671) rfl rfl rfl (by decide +kernel) ⟨Nat.le_of_ble_eq_true rfl, Nat.le_of_ble_eq_true rfl⟩) (mm_pV hKK (mm_rc hKK hT.2.1 mm_le.rf rfl)) rfl rfl hl.1 rfl (lv_room (Nat.le_of_ble_eq_true rfl)) dX8_parseStatement_213 ⟨Nat.le_of_ble_eq_true rfl, Nat.le_of_ble_eq_true rfl⟩) hS (mm_sS hS) (fun H_213 L_213 hB_213 hz_213 hq_213 hS => ?_)
              obtain ⟨I_213, hT, hx_213, hP⟩ := hB_213
              have hxi := hxi.tr (hx_213.mono (by decide))
              have hX : TX_ bt n I_213 ((tw_u (tw_u (tw_u F 22 (4 * k9) (nI 1)) 22 (4 * k9 + 1) (nI v_147)) 22 (4 * k9 + 2) (0))) := ⟨(hx_213 13 (by decide)).trans hX.1, hX.2.1, hX.2.2⟩
              have hF := hF.keep hq_213 hMP
              have hk23 := (hx_213 23 (by decide)).trans hk23
              have hP : PS bt n (.error (c_160, o_160)) I_213 := hP
              have hce_68 := hP.1
              refine lv_aload_n hx hb dX8_parseStatement_216 rfl (lv_at hl 2 rfl) ?_
              refine lv_dup hx hb dX8_parseStatement_217 rfl ?_
              refine tw_geti 23 (v := nI k9) hx hb hts hown hKK hT (by decide) rfl (hk23) (hts _ q2521) dX8_parseStatement_218 ?_
              refine lv_iconst (v := nI 1) hx hb dX8_parseStatement_221 (by decide) ?_
              refine mm_iadd hx hb dX8_parseStatement_222 ?_
              refine tw_put 23 hx hb hts hown hKK hT hS (hMx) (by decide) rfl (by decide) ⟨rfl, rfl⟩ (hts _ q2521) dX8_parseStatement_223 (fun H_223 L_223 hT hz_223 hq_223 hS => ?_)
              have hX : TX_ bt n ((upd I_213 23 (nI (k9 + 1)))) ((tw_u (tw_u (tw_u F 22 (4 * k9) (nI 1)) 22 (4 * k9 + 1) (nI v_147)) 22 (4 * k9 + 2) (0))) := ⟨(tw_un (by decide)).trans hX.1, hX.2⟩
              have hxi : exI [16, 17, 18, 19, 20, 21, 23] I ((upd I_213 23 (nI (k9 + 1)))) := hxi.tr (exI.u (by decide))
              have hF := hF.put hq_223 (hMP x (.inl rfl))
              have hP : PS bt n (.error (c_160, o_160)) ((upd I_213 23 (nI (k9 + 1)))) := hP.cg (fun j h1 h2 => tw_un (by omega))
              have hk23 : ((upd I_213 23 (nI (k9 + 1)))) 23 = nI (k9 + 1) := tw_up _ _ _
              exact mm_vret hx hb hr hlk hS (Nat.le_of_ble_eq_true rfl) (Nat.le_of_ble_eq_true rfl) (⟨rfl, _, _, hT, hxi, ((eqx.u (by decide)).tr (eqx.u (by decide))).tr (eqx.u (by decide)), by rw [pM_2 (e := (c_160, o_160)) hk_1 c_27 (by simp only [pArg, hN_147, hN_160])]; exact hP⟩) dX8_parseStatement_226
            · have hP : PS bt n (.ok q_160) I_160 := by have hP : PS bt n (p_pos (pVal bt n true q_147)) I_160 := hP; rw [hN_160] at hP; exact hP
              have hbd_q_160 := tk_bd (b := bt) (show q_160 ≤ n from hP.1)
              refine mm_top (y := v_160) (by show p_vI (pVal bt n true q_147) = _; rw [hN_160]; rfl) ?_
              refine tw_st 22 (k := (4 * k9 + 2)) hx hb hKK hT hS hMa rfl rfl (by show _ < 120; omega) dX8_parseStatement_163 (fun H_163 L_163 hT hz_163 hq_163 hS => ?_)
              have hX : TX_ bt n I_160 ((tw_u (tw_u (tw_u F 22 (4 * k9) (nI 1)) 22 (4 * k9 + 1) (nI v_147)) 22 (4 * k9 + 2) (v_160))) := ⟨hX.1, hX.2.1, fun i hi => (congrFun (tw_uo (by decide)) i).trans (hX.2.2 i hi)⟩
              have hF := hF.put hq_163 (hMP _ (.inr ⟨22, rfl, rfl⟩))
              refine lv_goto (tgt := 212) hx hb dX8_parseStatement_164 (by decide) ?_
              refine lv_aload_n hx hb dX8_parseStatement_212 rfl (lv_at hl 2 rfl) ?_
              refine mm_rv (va_runV (As := []) (rest := []) ⟨hx, hb, hml, hown, hts⟩ (t_parseSemicolon l hT hX hP) (cwV 0 hts (lw_V q2668 q2670 qs72 q164 q2671) rfl rfl rfl (by decide +kernel) ⟨Nat.le_of_ble_eq_true rfl, Nat.le_of_ble_eq_true rfl⟩) (mm_pV hKK (mm_rc hKK hT.2.1 mm_le.rf rfl)) rfl rfl hl.1 rfl (lv_room (Nat.le_of_ble_eq_true rfl)) dX8_parseStatement_213 ⟨Nat.le_of_ble_eq_true rfl, Nat.le_of_ble_eq_true rfl⟩) hS (mm_sS hS) (fun H_213 L_213 hB_213 hz_213 hq_213 hS => ?_)
              obtain ⟨I_213, hT, hx_213, hP⟩ := hB_213
              have hxi := hxi.tr (hx_213.mono (by decide))
              have hX : TX_ bt n I_213 ((tw_u (tw_u (tw_u F 22 (4 * k9) (nI 1)) 22 (4 * k9 + 1) (nI v_147)) 22 (4 * k9 + 2) (v_160))) := ⟨(hx_213 13 (by decide)).trans hX.1, hX.2.1, hX.2.2⟩
              have hF := hF.keep hq_213 hMP
              have hk23 := (hx_213 23 (by decide)).trans hk23
              rcases hN_213 : pSem bt n q_160 with ⟨c_213, o_213⟩ | q_213
              · have hP : PS bt n (.error (c_213, o_213)) I_213 := by have hP : PS bt n (pSem bt n q_160) I_213 := hP; rw [hN_213] at hP; exact hP
                have hce_69 := hP.1
                refine lv_aload_n hx hb dX8_parseStatement_216 rfl (lv_at hl 2 rfl) ?_
                refine lv_dup hx hb dX8_parseStatement_217 rfl ?_
                refine tw_geti 23 (v := nI k9) hx hb hts hown hKK hT (by decide) rfl (hk23) (hts _ q2521) dX8_parseStatement_218 ?_
                refine lv_iconst (v := nI 1) hx hb dX8_parseStatement_221 (by decide) ?_
                refine mm_iadd hx hb dX8_parseStatement_222 ?_
                refine tw_put 23 hx hb hts hown hKK hT hS (hMx) (by decide) rfl (by decide) ⟨rfl, rfl⟩ (hts _ q2521) dX8_parseStatement_223 (fun H_223 L_223 hT hz_223 hq_223 hS => ?_)
                have hX : TX_ bt n ((upd I_213 23 (nI (k9 + 1)))) ((tw_u (tw_u (tw_u F 22 (4 * k9) (nI 1)) 22 (4 * k9 + 1) (nI v_147)) 22 (4 * k9 + 2) (v_160))) := ⟨(tw_un (by decide)).trans hX.1, hX.2⟩
                have hxi : exI [16, 17, 18, 19, 20, 21, 23] I ((upd I_213 23 (nI (k9 + 1)))) := hxi.tr (exI.u (by decide))
                have hF := hF.put hq_223 (hMP x (.inl rfl))
                have hP : PS bt n (.error (c_213, o_213)) ((upd I_213 23 (nI (k9 + 1)))) := hP.cg (fun j h1 h2 => tw_un (by omega))
                have hk23 : ((upd I_213 23 (nI (k9 + 1)))) 23 = nI (k9 + 1) := tw_up _ _ _
                exact mm_vret hx hb hr hlk hS (Nat.le_of_ble_eq_true rfl) (Nat.le_of_ble_eq_true rfl) (⟨rfl, _, _, hT, hxi, ((eqx.u (by decide)).tr (eqx.u (by decide))).tr (eqx.u (by decide)), by rw [pM_3 (x := (1, v_147, 0, v_160)) (q := q_160) hk_1 c_27 (by simp only [pArg, hN_147, hN_160]) hN_213]; exact hP⟩) dX8_parseStatement_226
              · have hP : PS bt n (.ok q_213) I_213 := by have hP : PS bt n (pSem bt n q_160) I_213 := hP; rw [hN_213] at hP; exact hP
                have hbd_q_213 := tk_bd (b := bt) (show q_213 ≤ n from hP.1)
                refine lv_aload_n hx hb dX8_parseStatement_216 rfl (lv_at hl 2 rfl) ?_
                refine lv_dup hx hb dX8_parseStatement_217 rfl ?_
                refine tw_geti 23 (v := nI k9) hx hb hts hown hKK hT (by decide) rfl (hk23) (hts _ q2521) dX8_parseStatement_218 ?_
                refine lv_iconst (v := nI 1) hx hb dX8_parseStatement_221 (by decide) ?_
                refine mm_iadd hx hb dX8_parseStatement_222 ?_
                refine tw_put 23 hx hb hts hown hKK hT hS (hMx) (by decide) rfl (by decide) ⟨rfl, rfl⟩ (hts _ q2521) dX8_parseStatement_223 (fun H_223 L_223 hT hz_223 hq_223 hS => ?_)
                have hX : TX_ bt n ((upd I_213 23 (nI (k9 + 1)))) ((tw_u (tw_u (tw_u F 22 (4 * k9) (nI 1)) 22 (4 * k9 + 1) (nI v_147)) 22 (4 * k9 + 2) (v_160))) := ⟨(tw_un (by decide)).trans hX.1, hX.2⟩
                have hxi : exI [16, 17, 18, 19, 20, 21, 23] I ((upd I_213 23 (nI (k9 + 1)))) := hxi.tr (exI.u (by decide))
                have hF := hF.put hq_223 (hMP x (.inl rfl))
                have hP : PS bt n (.ok q_213) ((upd I_213 23 (nI (k9 + 1)))) := hP.cg (fun j h1 h2 => tw_un (by omega))
                have hk23 : ((upd I_213 23 (nI (k9 + 1)))) 23 = nI (k9 + 1) := tw_up _ _ _
                exact mm_vret hx hb hr hlk hS (Nat.le_of_ble_eq_true rfl) (Nat.le_of_ble_eq_true rfl) (⟨rfl, _, _, hT, hxi, ((eqx.u (by decide)).tr (eqx.u (by decide))).tr (eqx.u (by decide)), by rw [pM_4 (x := (1, v_147, 0, v_160)) (q := q_160) hk_1 c_27 (by simp only [pArg, hN_147, hN_160]) hN_213]; exact ⟨hP, hk23, ⟨(show 1 ≤ 4 by decide), by repeat (first | exact su_s | refine (su_n (by omega)).trans ?_), fun _ => by repeat (first | exact su_s | refine (su_n (by omega)).trans ?_), fun h => absurd (show (1 : Nat) = 0 ∨ (1 : Nat) = 2 from h) (by decide), fun _ => by repeat (first | exact su_s | refine (su_n (by omega)).trans ?_), fun h => absurd (show (1 : Nat) = 0 from h) (by decide)⟩, fun j hj => by (repeat (refine (su_n (by omega)).trans ?_)); rfl⟩⟩) dX8_parseStatement_226
        · exact absurd c_47 (by decide)
  · refine mm_top (y := nI 2) (by rw [hk_1]; rfl) ?_
    refine lv_istore_n (lv' := [(1, .int (nI 2)), (0, .ref x)]) hx hb dX8_parseStatement_4 rfl hl (by decide) rfl (fun ls hl => ?_)
    refine lv_aload_n hx hb dX8_parseStatement_5 rfl (lv_at hl 1 rfl) ?_
    refine lv_iload_n hx hb dX8_parseStatement_6 rfl (lv_at hl 0 rfl) ?_
    refine lv_iconst (v := (-1)) hx hb dX8_parseStatement_7 (by decide) ?_
    refine lv_icmp_eq (tgt := 15) hx hb dX8_parseStatement_8 (by decide) (fun c_8 => ?_) (fun c_8 => ?_)
    · exact absurd c_8 (by decide)
    · refine lv_iconst (v := nI 1) hx hb dX8_parseStatement_11 (by decide) ?_
      refine mm_top (y := mm_b true) rfl ?_
      refine lv_goto (tgt := 16) hx hb dX8_parseStatement_12 (by decide) ?_
      refine lv_iconst (v := nI 1) hx hb dX8_parseStatement_16 (by decide) ?_
      refine mm_rv (va_runV (As := [.int (mm_b true), .int (nI 1)]) (rest := []) ⟨hx, hb, hml, hown, hts⟩ (t_expect l hT hX hP (by decide) (by decide)) (cwV 2 hts (lw_V q2655 q2657 qs69 q164 q2658) rfl rfl rfl (by decide +kernel) ⟨Nat.le_of_ble_eq_true rfl, Nat.le_of_ble_eq_true rfl⟩) (mm_pV hKK (mm_rc hKK hT.2.1 mm_le.rf rfl)) rfl rfl hl.1 rfl (lv_room (Nat.le_of_ble_eq_true rfl)) dX8_parseStatement_17 ⟨Nat.le_of_ble_eq_true rfl, Nat.le_of_ble_eq_true rfl⟩) hS (mm_sS hS) (fun H_17 L_17 hB_17 hz_17 hq_17 hS => ?_)
      obtain ⟨I_17, hT, hx_17, hP⟩ := hB_17
      have hxi := hxi.tr (hx_17.mono (by decide))
      have hX : TX_ bt n I_17 F := ⟨(hx_17 13 (by decide)).trans hX.1, hX.2.1, hX.2.2⟩
      have hF := hF.keep hq_17 hMP
      have hk23 := (hx_17 23 (by decide)).trans hk23
      have hP : PS bt n (.ok p9) I_17 := hP
      have hbd_p9 := tk_bd (b := bt) (show p9 ≤ n from hP.1)
      refine lv_aload_n hx hb dX8_parseStatement_20 rfl (lv_at hl 1 rfl) ?_
      refine lv_aload_n hx hb dX8_parseStatement_21 rfl (lv_at hl 1 rfl) ?_
      refine tw_geti 23 (v := nI k9) hx hb hts hown hKK hT (by decide) rfl (hk23) (hts _ q2521) dX8_parseStatement_22 ?_
      refine lv_bipush (v := nI 30) hx hb dX8_parseStatement_25 (by decide) ?_
      refine mm_icmp_ge (tgt := 34) (by omega) (by omega) hx hb dX8_parseStatement_27 (by decide) (fun c_27 => ?_) (fun c_27 => ?_)
      · refine lv_iconst (v := nI 0) hx hb dX8_parseStatement_34 (by decide) ?_
        refine mm_top (y := mm_b false) rfl ?_
        refine lv_iconst (v := nI 3) hx hb dX8_parseStatement_35 (by decide) ?_
        refine mm_rv (va_runV (As := [.int (mm_b false), .int (nI 3)]) (rest := []) ⟨hx, hb, hml, hown, hts⟩ (t_expect l hT hX hP (by decide) (by decide)) (cwV 2 hts (lw_V q2655 q2657 qs69 q164 q2658) rfl rfl rfl (by decide +kernel) ⟨Nat.le_of_ble_eq_true rfl, Nat.le_of_ble_eq_true rfl⟩) (mm_pV hKK (mm_rc hKK hT.2.1 mm_le.rf rfl)) rfl rfl hl.1 rfl (lv_room (Nat.le_of_ble_eq_true rfl)) dX8_parseStatement_36 ⟨Nat.le_of_ble_eq_true rfl, Nat.le_of_ble_eq_true rfl⟩) hS (mm_sS hS) (fun H_36 L_36 hB_36 hz_36 hq_36 hS => ?_)
        obtain ⟨I_36, hT, hx_36, hP⟩ := hB_36
        have hxi := hxi.tr (hx_36.mono (by decide))
        have hX : TX_ bt n I_36 F := ⟨(hx_36 13 (by decide)).trans hX.1, hX.2.1, hX.2.2⟩
        have hF := hF.keep hq_36 hMP
        have hk23 := (hx_36 23 (by decide)).trans hk23
        have hP : PS bt n (.error (3, tkS bt n p9)) I_36 := hP
        have hce_70 := hP.1
        refine lv_aload_n hx hb dX8_parseStatement_39 rfl (lv_at hl 1 rfl) ?_
        refine mm_rv (va_runV (As := []) (rest := []) ⟨hx, hb, hml, hown, hts⟩ (t_advance l hT hX hP) (cwV 0 hts (lw_V q2618 q2620 qs64 q164 q2621) rfl rfl rfl (by decide +kernel) ⟨Nat.le_of_ble_eq_true rfl, Nat.le_of_ble_eq_true rfl⟩) (mm_pV hKK (mm_rc hKK hT.2.1 mm_le.rf rfl)) rfl rfl hl.1 rfl (lv_room (Nat.le_of_ble_eq_true rfl)) dX8_parseStatement_40 ⟨Nat.le_of_ble_eq_true rfl, Nat.le_of_ble_eq_true rfl⟩) hS (mm_sS hS) (fun H_40 L_40 hB_40 hz_40 hq_40 hS => ?_)
        obtain ⟨I_40, hT, hx_40, hP⟩ := hB_40
        have hxi := hxi.tr (hx_40.mono (by decide))
        have hX : TX_ bt n I_40 F := ⟨(hx_40 13 (by decide)).trans hX.1, hX.2.1, hX.2.2⟩
        have hF := hF.keep hq_40 hMP
        have hk23 := (hx_40 23 (by decide)).trans hk23
        have hP : PS bt n (.error (3, tkS bt n p9)) I_40 := hP
        have hce_71 := hP.1
        refine lv_aload_n hx hb dX8_parseStatement_43 rfl (lv_at hl 1 rfl) ?_
        refine tw_geti 20 (v := nI 3) hx hb hts hown hKK hT (by decide) rfl (hP.2.1) (hts _ q2518) dX8_parseStatement_44 ?_
        refine mm_if_le (tgt := 51) (by omega) hx hb dX8_parseStatement_47 (by decide) (fun c_47 => ?_) (fun c_47 => ?_)
        · exact absurd c_47 (by decide)
        · exact mm_vret hx hb hr hlk hS (Nat.le_of_ble_eq_true rfl) (Nat.le_of_ble_eq_true rfl) (⟨rfl, _, F, hT, hxi, eqx.rf, by rw [pM_1 hk_1 (by omega)]; exact hP⟩) dX8_parseStatement_50
      · refine lv_iconst (v := nI 1) hx hb dX8_parseStatement_30 (by decide) ?_
        refine mm_top (y := mm_b true) rfl ?_
        refine lv_goto (tgt := 35) hx hb dX8_parseStatement_31 (by decide) ?_
        refine lv_iconst (v := nI 3) hx hb dX8_parseStatement_35 (by decide) ?_
        refine mm_rv (va_runV (As := [.int (mm_b true), .int (nI 3)]) (rest := []) ⟨hx, hb, hml, hown, hts⟩ (t_expect l hT hX hP (by decide) (by decide)) (cwV 2 hts (lw_V q2655 q2657 qs69 q164 q2658) rfl rfl rfl (by decide +kernel) ⟨Nat.le_of_ble_eq_true rfl, Nat.le_of_ble_eq_true rfl⟩) (mm_pV hKK (mm_rc hKK hT.2.1 mm_le.rf rfl)) rfl rfl hl.1 rfl (lv_room (Nat.le_of_ble_eq_true rfl)) dX8_parseStatement_36 ⟨Nat.le_of_ble_eq_true rfl, Nat.le_of_ble_eq_true rfl⟩) hS (mm_sS hS) (fun H_36 L_36 hB_36 hz_36 hq_36 hS => ?_)
        obtain ⟨I_36, hT, hx_36, hP⟩ := hB_36
        have hxi := hxi.tr (hx_36.mono (by decide))
        have hX : TX_ bt n I_36 F := ⟨(hx_36 13 (by decide)).trans hX.1, hX.2.1, hX.2.2⟩
        have hF := hF.keep hq_36 hMP
        have hk23 := (hx_36 23 (by decide)).trans hk23
        have hP : PS bt n (.ok p9) I_36 := hP
        have hbd_p9 := tk_bd (b := bt) (show p9 ≤ n from hP.1)
        refine lv_aload_n hx hb dX8_parseStatement_39 rfl (lv_at hl 1 rfl) ?_
        refine mm_rv (va_runV (As := []) (rest := []) ⟨hx, hb, hml, hown, hts⟩ (t_advance l hT hX hP) (cwV 0 hts (lw_V q2618 q2620 qs64 q164 q2621) rfl rfl rfl (by decide +kernel) ⟨Nat.le_of_ble_eq_true rfl, Nat.le_of_ble_eq_true rfl⟩) (mm_pV hKK (mm_rc hKK hT.2.1 mm_le.rf rfl)) rfl rfl hl.1 rfl (lv_room (Nat.le_of_ble_eq_true rfl)) dX8_parseStatement_40 ⟨Nat.le_of_ble_eq_true rfl, Nat.le_of_ble_eq_true rfl⟩) hS (mm_sS hS) (fun H_40 L_40 hB_40 hz_40 hq_40 hS => ?_)
        obtain ⟨I_40, hT, hx_40, hP⟩ := hB_40
        have hxi := hxi.tr (hx_40.mono (by decide))
        have hX : TX_ bt n I_40 F := ⟨(hx_40 13 (by decide)).trans hX.1, hX.2.1, hX.2.2⟩
        have hF := hF.keep hq_40 hMP
        have hk23 := (hx_40 23 (by decide)).trans hk23
        have hP : PS bt n (.ok (tkE bt n p9)) I_40 := hP
        have hbd_tkE_bt_n_p9 := tk_bd (b := bt) (show tkE bt n p9 ≤ n from hP.1)
        refine lv_aload_n hx hb dX8_parseStatement_43 rfl (lv_at hl 1 rfl) ?_
        refine tw_geti 20 (v := nI 0) hx hb hts hown hKK hT (by decide) rfl (hP.2.1) (hts _ q2518) dX8_parseStatement_44 ?_
        refine mm_if_le (tgt := 51) (by omega) hx hb dX8_parseStatement_47 (by decide) (fun c_47 => ?_) (fun c_47 => ?_)
        · refine lv_iconst (v := nI 4) hx hb dX8_parseStatement_51 (by decide) ?_
          refine lv_aload_n hx hb dX8_parseStatement_52 rfl (lv_at hl 1 rfl) ?_
          refine tw_geti 23 (v := nI k9) hx hb hts hown hKK hT (by decide) rfl (hk23) (hts _ q2521) dX8_parseStatement_53 ?_
          refine mm_imul hx hb dX8_parseStatement_56 ?_
          refine lv_istore_n (lv' := [(2, .int (nI (4 * k9))), (1, .int (nI 2)), (0, .ref x)]) hx hb dX8_parseStatement_57 rfl hl (by decide) rfl (fun ls hl => ?_)
          refine lv_aload_n hx hb dX8_parseStatement_58 rfl (lv_at hl 2 rfl) ?_
          refine tw_geta 22 hx hb hts hown hKK hT rfl rfl (hts _ q2520) dX8_parseStatement_59 ?_
          refine lv_iload_n hx hb dX8_parseStatement_62 rfl (lv_at hl 0 rfl) ?_
          refine lv_iload_n hx hb dX8_parseStatement_63 rfl (lv_at hl 1 rfl) ?_
          refine tw_st 22 (k := (4 * k9)) hx hb hKK hT hS hMa rfl rfl (by show _ < 120; omega) dX8_parseStatement_64 (fun H_64 L_64 hT hz_64 hq_64 hS => ?_)
          have hX : TX_ bt n I_40 ((tw_u F 22 (4 * k9) (nI 2))) := ⟨hX.1, hX.2.1, fun i hi => (congrFun (tw_uo (by decide)) i).trans (hX.2.2 i hi)⟩
          have hF := hF.put hq_64 (hMP _ (.inr ⟨22, rfl, rfl⟩))
          refine lv_iload_n hx hb dX8_parseStatement_65 rfl (lv_at hl 1 rfl) ?_
          refine lv_tableIn (off := 101) (tgt := 167) hx hb dX8_parseStatement_66 (by decide) (by decide) (by rfl) (by decide) ?_
          refine lv_aload_n hx hb dX8_parseStatement_167 rfl (lv_at hl 2 rfl) ?_
          refine tw_geta 22 hx hb hts hown hKK hT rfl rfl (hts _ q2520) dX8_parseStatement_168 ?_
          refine lv_iload_n hx hb dX8_parseStatement_171 rfl (lv_at hl 0 rfl) ?_
          refine lv_iconst (v := nI 1) hx hb dX8_parseStatement_172 (by decide) ?_
          refine mm_iadd hx hb dX8_parseStatement_173 ?_
          refine lv_aload_n hx hb dX8_parseStatement_174 rfl (lv_at hl 2 rfl) ?_
          refine mm_ri (va_runV (As := []) (rest := [.int (nI (4 * k9 + 1)), .ref (ad 22)]) ⟨hx, hb, hml, hown, hts⟩ (t_parseVersion l hT hX hP) (cwV 0 hts (lw_V q2693 q2695 qs76 q164 q2696) rfl rfl rfl (by decide +kernel) ⟨Nat.le_of_ble_eq_true rfl, Nat.le_of_ble_eq_true rfl⟩) (mm_pV hKK (mm_rc hKK hT.2.1 mm_le.rf rfl)) rfl rfl hl.1 rfl (lv_room (Nat.le_of_ble_eq_true rfl)) dX8_parseStatement_175 ⟨Nat.le_of_ble_eq_true rfl, Nat.le_of_ble_eq_true rfl⟩) hS (mm_sS hS) (fun H_175 L_175 hB_175 hz_175 hq_175 hS => ?_)
          obtain ⟨I_175, hT, hx_175, hP⟩ := hB_175
          have hxi := hxi.tr (hx_175.mono (by decide))
          have hX : TX_ bt n I_175 ((tw_u F 22 (4 * k9) (nI 2))) := ⟨(hx_175 13 (by decide)).trans hX.1, hX.2.1, hX.2.2⟩
          have hF := hF.keep hq_175 hMP
          have hk23 := (hx_175 23 (by decide)).trans hk23
          rcases hN_175 : pNum bt n (tkE bt n p9) 39 with ⟨c_175, o_175⟩ | ⟨v_175, q_175⟩
          · have hP : PS bt n (.error (c_175, o_175)) I_175 := by have hP : PS bt n (p_pos (pNum bt n (tkE bt n p9) 39)) I_175 := hP; rw [hN_175] at hP; exact hP
            have hce_72 := hP.1
            refine mm_top (y := nI 0) (by show nI (p_vN (pNum bt n (tkE bt n p9) 39)) = _; rw [hN_175]; rfl) ?_
            refine tw_st 22 (k := (4 * k9 + 1)) hx hb hKK hT hS hMa rfl rfl (by show _ < 120; omega) dX8_parseStatement_178 (fun H_178 L_178 hT hz_178 hq_178 hS => ?_)
            have hX : TX_ bt n I_175 ((tw_u (tw_u F 22 (4 * k9) (nI 2)) 22 (4 * k9 + 1) (nI 0))) := ⟨hX.1, hX.2.1, fun i hi => (congrFun (tw_uo (by decide)) i).trans (hX.2.2 i hi)⟩
            have hF := hF.put hq_178 (hMP _ (.inr ⟨22, rfl, rfl⟩))
            refine lv_aload_n hx hb dX8_parseStatement_179 rfl (lv_at hl 2 rfl) ?_
            refine tw_geta 22 hx hb hts hown hKK hT rfl rfl (hts _ q2520) dX8_parseStatement_180 ?_
            refine lv_iload_n hx hb dX8_parseStatement_183 rfl (lv_at hl 0 rfl) ?_
            refine lv_iconst (v := nI 2) hx hb dX8_parseStatement_184 (by decide) ?_
            refine mm_iadd hx hb dX8_parseStatement_185 ?_
            refine lv_aload_n hx hb dX8_parseStatement_186 rfl (lv_at hl 2 rfl) ?_
            refine lv_iconst (v := nI 0) hx hb dX8_parseStatement_187 (by decide) ?_
            refine lv_bipush (v := nI 64) hx hb dX8_parseStatement_188 (by decide) ?_
            refine mm_ri (va_runV (As := [.int (nI 0), .int (nI 64)]) (rest := [.int (nI (4 * k9 + 2)), .ref (ad 22)]) ⟨hx, hb, hml, hown, hts⟩ (t_parseNumber l hT hX hP (by decide)) (cwV 2 hts (lw_V q2664 q2666 qs71 q164 q2667) rfl rfl rfl (by decide +kernel) ⟨Nat.le_of_ble_eq_true rfl, Nat.le_of_ble_eq_true rfl⟩) (mm_pV hKK (mm_rc hKK hT.2.1 mm_le.rf rfl)) rfl rfl hl.1 rfl (lv_room (Nat.le_of_ble_eq_true rfl)) dX8_parseStatement_190 ⟨Nat.le_of_ble_eq_true rfl, Nat.le_of_ble_eq_true rfl⟩) hS (mm_sS hS) (fun H_190 L_190 hB_190 hz_190 hq_190 hS => ?_)
            obtain ⟨I_190, hT, hx_190, hP⟩ := hB_190
            have hxi := hxi.tr (hx_190.mono (by decide))
            have hX : TX_ bt n I_190 ((tw_u (tw_u F 22 (4 * k9) (nI 2)) 22 (4 * k9 + 1) (nI 0))) := ⟨(hx_190 13 (by decide)).trans hX.1, hX.2.1, hX.2.2⟩
            have hF := hF.keep hq_190 hMP
            have hk23 := (hx_190 23 (by decide)).trans hk23
            have hP : PS bt n (.error (c_175, o_175)) I_190 := hP
            have hce_73 := hP.1
            refine mm_top (y := nI 0) rfl ?_
            refine tw_st 22 (k := (4 * k9 + 2)) hx hb hKK hT hS hMa rfl rfl (by show _ < 120; omega) dX8_parseStatement_193 (fun H_193 L_193 hT hz_193 hq_193 hS => ?_)
            have hX : TX_ bt n I_190 ((tw_u (tw_u (tw_u F 22 (4 * k9) (nI 2)) 22 (4 * k9 + 1) (nI 0)) 22 (4 * k9 + 2) (nI 0))) := ⟨hX.1, hX.2.1, fun i hi => (congrFun (tw_uo (by decide)) i).trans (hX.2.2 i hi)⟩
            have hF := hF.put hq_193 (hMP _ (.inr ⟨22, rfl, rfl⟩))
            refine lv_goto (tgt := 212) hx hb dX8_parseStatement_194 (by decide) ?_
            refine lv_aload_n hx hb dX8_parseStatement_212 rfl (lv_at hl 2 rfl) ?_
            refine mm_rv (va_runV (As := []) (rest := []) ⟨hx, hb, hml, hown, hts⟩ (t_parseSemicolon l hT hX hP) (cwV 0 hts (lw_V q2668 q2670 qs72 q164 q2671) rfl rfl rfl (by decide +kernel) ⟨Nat.le_of_ble_eq_true rfl, Nat.le_of_ble_eq_true rfl⟩) (mm_pV hKK (mm_rc hKK hT.2.1 mm_le.rf rfl)) rfl rfl hl.1 rfl (lv_room (Nat.le_of_ble_eq_true rfl)) dX8_parseStatement_213 ⟨Nat.le_of_ble_eq_true rfl, Nat.le_of_ble_eq_true rfl⟩) hS (mm_sS hS) (fun H_213 L_213 hB_213 hz_213 hq_213 hS => ?_)
            obtain ⟨I_213, hT, hx_213, hP⟩ := hB_213
            have hxi := hxi.tr (hx_213.mono (by decide))
            have hX : TX_ bt n I_213 ((tw_u (tw_u (tw_u F 22 (4 * k9) (nI 2)) 22 (4 * k9 + 1) (nI 0)) 22 (4 * k9 + 2) (nI 0))) := ⟨(hx_213 13 (by decide)).trans hX.1, hX.2.1, hX.2.2⟩
            have hF := hF.keep hq_213 hMP
            have hk23 := (hx_213 23 (by decide)).trans hk23
            have hP : PS bt n (.error (c_175, o_175)) I_213 := hP
            have hce_74 := hP.1
            refine lv_aload_n hx hb dX8_parseStatement_216 rfl (lv_at hl 2 rfl) ?_
            refine lv_dup hx hb dX8_parseStatement_217 rfl ?_
            refine tw_geti 23 (v := nI k9) hx hb hts hown hKK hT (by decide) rfl (hk23) (hts _ q2521) dX8_parseStatement_218 ?_
            refine lv_iconst (v := nI 1) hx hb dX8_parseStatement_221 (by decide) ?_
            refine mm_iadd hx hb dX8_parseStatement_222 ?_
            refine tw_put 23 hx hb hts hown hKK hT hS (hMx) (by decide) rfl (by decide) ⟨rfl, rfl⟩ (hts _ q2521) dX8_parseStatement_223 (fun H_223 L_223 hT hz_223 hq_223 hS => ?_)
            have hX : TX_ bt n ((upd I_213 23 (nI (k9 + 1)))) ((tw_u (tw_u (tw_u F 22 (4 * k9) (nI 2)) 22 (4 * k9 + 1) (nI 0)) 22 (4 * k9 + 2) (nI 0))) := ⟨(tw_un (by decide)).trans hX.1, hX.2⟩
            have hxi : exI [16, 17, 18, 19, 20, 21, 23] I ((upd I_213 23 (nI (k9 + 1)))) := hxi.tr (exI.u (by decide))
            have hF := hF.put hq_223 (hMP x (.inl rfl))
            have hP : PS bt n (.error (c_175, o_175)) ((upd I_213 23 (nI (k9 + 1)))) := hP.cg (fun j h1 h2 => tw_un (by omega))
            have hk23 : ((upd I_213 23 (nI (k9 + 1)))) 23 = nI (k9 + 1) := tw_up _ _ _
            exact mm_vret hx hb hr hlk hS (Nat.le_of_ble_eq_true rfl) (Nat.le_of_ble_eq_true rfl) (⟨rfl, _, _, hT, hxi, ((eqx.u (by decide)).tr (eqx.u (by decide))).tr (eqx.u (by decide)), by rw [pM_2 (e := (c_175, o_175)) hk_1 c_27 (by simp only [pArg, hN_175])]; exact hP⟩) dX8_parseStatement_226
          · have hP : PS bt n (.ok q_175) I_175 := by have hP : PS bt n (p_pos (pNum bt n (tkE bt n p9) 39)) I_175 := hP; rw [hN_175] at hP; exact hP
            have hbd_q_175 := tk_bd (b := bt) (show q_175 ≤ n from hP.1)
            have hle_175 := pNum_le hN_175
            refine mm_top (y := nI v_175) (by show nI (p_vN (pNum bt n (tkE bt n p9) 39)) = _; rw [hN_175]; rfl) ?_
            refine tw_st 22 (k := (4 * k9 + 1)) hx hb hKK hT hS hMa rfl rfl (by show _ < 120; omega) dX8_parseStatement_178 (fun H_178 L_178 hT hz_178 hq_178 hS => ?_)
            have hX : TX_ bt n I_175 ((tw_u (tw_u F 22 (4 * k9) (nI 2)) 22 (4 * k9 + 1) (nI v_175))) := ⟨hX.1, hX.2.1, fun i hi => (congrFun (tw_uo (by decide)) i).trans (hX.2.2 i hi)⟩
            have hF := hF.put hq_178 (hMP _ (.inr ⟨22, rfl, rfl⟩))
            refine lv_aload_n hx hb dX8_parseStatement_179 rfl (lv_at hl 2 rfl) ?_
            refine tw_geta 22 hx hb hts hown hKK hT rfl rfl (hts _ q2520) dX8_parseStatement_180 ?_
            refine lv_iload_n hx hb dX8_parseStatement_183 rfl (lv_at hl 0 rfl) ?_
            refine lv_iconst (v := nI 2) hx hb dX8_parseStatement_184 (by decide) ?_
            refine mm_iadd hx hb dX8_parseStatement_185 ?_
            refine lv_aload_n hx hb dX8_parseStatement_186 rfl (lv_at hl 2 rfl) ?_
            refine lv_iconst (v := nI 0) hx hb dX8_parseStatement_187 (by decide) ?_
            refine lv_bipush (v := nI 64) hx hb dX8_parseStatement_188 (by decide) ?_
            refine mm_ri (va_runV (As := [.int (nI 0), .int (nI 64)]) (rest := [.int (nI (4 * k9 + 2)), .ref (ad 22)]) ⟨hx, hb, hml, hown, hts⟩ (t_parseNumber l hT hX hP (by decide)) (cwV 2 hts (lw_V q2664 q2666 qs71 q164 q2667) rfl rfl rfl (by decide +kernel) ⟨Nat.le_of_ble_eq_true rfl, Nat.le_of_ble_eq_true rfl⟩) (mm_pV hKK (mm_rc hKK hT.2.1 mm_le.rf rfl)) rfl rfl hl.1 rfl (lv_room (Nat.le_of_ble_eq_true rfl)) dX8_parseStatement_190 ⟨Nat.le_of_ble_eq_true rfl, Nat.le_of_ble_eq_true rfl⟩) hS (mm_sS hS) (fun H_190 L_190 hB_190 hz_190 hq_190 hS => ?_)
            obtain ⟨I_190, hT, hx_190, hP⟩ := hB_190
            have hxi := hxi.tr (hx_190.mono (by decide))
            have hX : TX_ bt n I_190 ((tw_u (tw_u F 22 (4 * k9) (nI 2)) 22 (4 * k9 + 1) (nI v_175))) := ⟨(hx_190 13 (by decide)).trans hX.1, hX.2.1, hX.2.2⟩
            have hF := hF.keep hq_190 hMP
            have hk23 := (hx_190 23 (by decide)).trans hk23
            rcases hN_190 : pNum bt n q_175 64 with ⟨c_190, o_190⟩ | ⟨v_190, q_190⟩
            · have hP : PS bt n (.error (c_190, o_190)) I_190 := by have hP : PS bt n (p_pos (pNum bt n q_175 64)) I_190 := hP; rw [hN_190] at hP; exact hP
              have hce_75 := hP.1
              refine mm_top (y := nI 0) (by show nI (p_vN (pNum bt n q_175 64)) = _; rw [hN_190]; rfl) ?_
              refine tw_st 22 (k := (4 * k9 + 2)) hx hb hKK hT hS hMa rfl rfl (by show _ < 120; omega) dX8_parseStatement_193 (fun H_193 L_193 hT hz_193 hq_193 hS => ?_)
              have hX : TX_ bt n I_190 ((tw_u (tw_u (tw_u F 22 (4 * k9) (nI 2)) 22 (4 * k9 + 1) (nI v_175)) 22 (4 * k9 + 2) (nI 0))) := ⟨hX.1, hX.2.1, fun i hi => (congrFun (tw_uo (by decide)) i).trans (hX.2.2 i hi)⟩
              have hF := hF.put hq_193 (hMP _ (.inr ⟨22, rfl, rfl⟩))
              refine lv_goto (tgt := 212) hx hb dX8_parseStatement_194 (by decide) ?_
              refine lv_aload_n hx hb dX8_parseStatement_212 rfl (lv_at hl 2 rfl) ?_
              refine mm_rv (va_runV (As := []) (rest := []) ⟨hx, hb, hml, hown, hts⟩ (t_parseSemicolon l hT hX hP) (cwV 0 hts (lw_V q2668 q2670 qs72 q164 q2671) rfl rfl rfl (by decide +kernel) ⟨Nat.le_of_ble_eq_true rfl, Nat.le_of_ble_eq_true rfl⟩) (mm_pV hKK (mm_rc hKK hT.2.1 mm_le.rf rfl)) rfl rfl hl.1 rfl (lv_room (Nat.le_of_ble_eq_true rfl)) dX8_parseStatement_213 ⟨Nat.le_of_ble_eq_true rfl, Nat.le_of_ble_eq_true rfl⟩) hS (mm_sS hS) (fun H_213 L_213 hB_213 hz_213 hq_213 hS => ?_)
              obtain ⟨I_213, hT, hx_213, hP⟩ := hB_213
              have hxi := hxi.tr (hx_213.mono (by decide))
              have hX : TX_ bt n I_213 ((tw_u (tw_u (tw_u F 22 (4 * k9) (nI 2)) 22 (4 * k9 + 1) (nI v_175)) 22 (4 * k9 + 2) (nI 0))) := ⟨(hx_213 13 (by decide)).trans hX.1, hX.2.1, hX.2.2⟩
              have hF := hF.keep hq_213 hMP
              have hk23 := (hx_213 23 (by decide)).trans hk23
              have hP : PS bt n (.error (c_190, o_190)) I_213 := hP
              have hce_76 := hP.1
              refine lv_aload_n hx hb dX8_parseStatement_216 rfl (lv_at hl 2 rfl) ?_
              refine lv_dup hx hb dX8_parseStatement_217 rfl ?_
              refine tw_geti 23 (v := nI k9) hx hb hts hown hKK hT (by decide) rfl (hk23) (hts _ q2521) dX8_parseStatement_218 ?_
              refine lv_iconst (v := nI 1) hx hb dX8_parseStatement_221 (by decide) ?_
              refine mm_iadd hx hb dX8_parseStatement_222 ?_
              refine tw_put 23 hx hb hts hown hKK hT hS (hMx) (by decide) rfl (by decide) ⟨rfl, rfl⟩ (hts _ q2521) dX8_parseStatement_223 (fun H_223 L_223 hT hz_223 hq_223 hS => ?_)
              have hX : TX_ bt n ((upd I_213 23 (nI (k9 + 1)))) ((tw_u (tw_u (tw_u F 22 (4 * k9) (nI 2)) 22 (4 * k9 + 1) (nI v_175)) 22 (4 * k9 + 2) (nI 0))) := ⟨(tw_un (by decide)).trans hX.1, hX.2⟩
              have hxi : exI [16, 17, 18, 19, 20, 21, 23] I ((upd I_213 23 (nI (k9 + 1)))) := hxi.tr (exI.u (by decide))
              have hF := hF.put hq_223 (hMP x (.inl rfl))
              have hP : PS bt n (.error (c_190, o_190)) ((upd I_213 23 (nI (k9 + 1)))) := hP.cg (fun j h1 h2 => tw_un (by omega))
              have hk23 : ((upd I_213 23 (nI (k9 + 1)))) 23 = nI (k9 + 1) := tw_up _ _ _
              exact mm_vret hx hb hr hlk hS (Nat.le_of_ble_eq_true rfl) (Nat.le_of_ble_eq_true rfl) (⟨rfl, _, _, hT, hxi, ((eqx.u (by decide)).tr (eqx.u (by decide))).tr (eqx.u (by decide)), by rw [pM_2 (e := (c_190, o_190)) hk_1 c_27 (by simp only [pArg, hN_175, hN_190])]; exact hP⟩) dX8_parseStatement_226
            · have hP : PS bt n (.ok q_190) I_190 := by have hP : PS bt n (p_pos (pNum bt n q_175 64)) I_190 := hP; rw [hN_190] at hP; exact hP
              have hbd_q_190 := tk_bd (b := bt) (show q_190 ≤ n from hP.1)
              have hle_190 := pNum_le hN_190
              refine mm_top (y := nI v_190) (by show nI (p_vN (pNum bt n q_175 64)) = _; rw [hN_190]; rfl) ?_
              refine tw_st 22 (k := (4 * k9 + 2)) hx hb hKK hT hS hMa rfl rfl (by show _ < 120; omega) dX8_parseStatement_193 (fun H_193 L_193 hT hz_193 hq_193 hS => ?_)
              have hX : TX_ bt n I_190 ((tw_u (tw_u (tw_u F 22 (4 * k9) (nI 2)) 22 (4 * k9 + 1) (nI v_175)) 22 (4 * k9 + 2) (nI v_190))) := ⟨hX.1, hX.2.1, fun i hi => (congrFun (tw_uo (by decide)) i).trans (hX.2.2 i hi)⟩
              have hF := hF.put hq_193 (hMP _ (.inr ⟨22, rfl, rfl⟩))
              refine lv_goto (tgt := 212) hx hb dX8_parseStatement_194 (by decide) ?_
              refine lv_aload_n hx hb dX8_parseStatement_212 rfl (lv_at hl 2 rfl) ?_
              refine mm_rv (va_runV (As := []) (rest := []) ⟨hx, hb, hml, hown, hts⟩ (t_parseSemicolon l hT hX hP) (cwV 0 hts (lw_V q2668 q2670 qs72 q164 q2671) rfl rfl rfl (by decide +kernel) ⟨Nat.le_of_ble_eq_true rfl, Nat.le_of_ble_eq_true rfl⟩) (mm_pV hKK (mm_rc hKK hT.2.1 mm_le.rf rfl)) rfl rfl hl.1 rfl (lv_room (Nat.le_of_ble_eq_true rfl)) dX8_parseStatement_213 ⟨Nat.le_of_ble_eq_true rfl, Nat.le_of_ble_eq_true rfl⟩) hS (mm_sS hS) (fun H_213 L_213 hB_213 hz_213 hq_213 hS => ?_)
              obtain ⟨I_213, hT, hx_213, hP⟩ := hB_213
              have hxi := hxi.tr (hx_213.mono (by decide))
              have hX : TX_ bt n I_213 ((tw_u (tw_u (tw_u F 22 (4 * k9) (nI 2)) 22 (4 * k9 + 1) (nI v_175)) 22 (4 * k9 + 2) (nI v_190))) := ⟨(hx_213 13 (by decide)).trans hX.1, hX.2.1, hX.2.2⟩
              have hF := hF.keep hq_213 hMP
              have hk23 := (hx_213 23 (by decide)).trans hk23
              rcases hN_213 : pSem bt n q_190 with ⟨c_213, o_213⟩ | q_213
              · have hP : PS bt n (.error (c_213, o_213)) I_213 := by have hP : PS bt n (pSem bt n q_190) I_213 := hP; rw [hN_213] at hP; exact hP
                have hce_77 := hP.1
                refine lv_aload_n hx hb dX8_parseStatement_216 rfl (lv_at hl 2 rfl) ?_
                refine lv_dup hx hb dX8_parseStatement_217 rfl ?_
                refine tw_geti 23 (v := nI k9) hx hb hts hown hKK hT (by decide) rfl (hk23) (hts _ q2521) dX8_parseStatement_218 ?_
                refine lv_iconst (v := nI 1) hx hb dX8_parseStatement_221 (by decide) ?_
                refine mm_iadd hx hb dX8_parseStatement_222 ?_
                refine tw_put 23 hx hb hts hown hKK hT hS (hMx) (by decide) rfl (by decide) ⟨rfl, rfl⟩ (hts _ q2521) dX8_parseStatement_223 (fun H_223 L_223 hT hz_223 hq_223 hS => ?_)
                have hX : TX_ bt n ((upd I_213 23 (nI (k9 + 1)))) ((tw_u (tw_u (tw_u F 22 (4 * k9) (nI 2)) 22 (4 * k9 + 1) (nI v_175)) 22 (4 * k9 + 2) (nI v_190))) := ⟨(tw_un (by decide)).trans hX.1, hX.2⟩
                have hxi : exI [16, 17, 18, 19, 20, 21, 23] I ((upd I_213 23 (nI (k9 + 1)))) := hxi.tr (exI.u (by decide))
                have hF := hF.put hq_223 (hMP x (.inl rfl))
                have hP : PS bt n (.error (c_213, o_213)) ((upd I_213 23 (nI (k9 + 1)))) := hP.cg (fun j h1 h2 => tw_un (by omega))
                have hk23 : ((upd I_213 23 (nI (k9 + 1)))) 23 = nI (k9 + 1) := tw_up _ _ _
                exact mm_vret hx hb hr hlk hS (Nat.le_of_ble_eq_true rfl) (Nat.le_of_ble_eq_true rfl) (⟨rfl, _, _, hT, hxi, ((eqx.u (by decide)).tr (eqx.u (by decide))).tr (eqx.u (by decide)), by rw [pM_3 (x := (2, v_175, v_190, 0)) (q := q_190) hk_1 c_27 (by simp only [pArg, hN_175, hN_190]) hN_213]; exact hP⟩) dX8_parseStatement_226
              · have hP : PS bt n (.ok q_213) I_213 := by have hP : PS bt n (pSem bt n q_190) I_213 := hP; rw [hN_213] at hP; exact hP
                have hbd_q_213 := tk_bd (b := bt) (show q_213 ≤ n from hP.1)
                refine lv_aload_n hx hb dX8_parseStatement_216 rfl (lv_at hl 2 rfl) ?_
                refine lv_dup hx hb dX8_parseStatement_217 rfl ?_
                refine tw_geti 23 (v := nI k9) hx hb hts hown hKK hT (by decide) rfl (hk23) (hts _ q2521) dX8_parseStatement_218 ?_
                refine lv_iconst (v := nI 1) hx hb dX8_parseStatement_221 (by decide) ?_
                refine mm_iadd hx hb dX8_parseStatement_222 ?_
                refine tw_put 23 hx hb hts hown hKK hT hS (hMx) (by decide) rfl (by decide) ⟨rfl, rfl⟩ (hts _ q2521) dX8_parseStatement_223 (fun H_223 L_223 hT hz_223 hq_223 hS => ?_)
                have hX : TX_ bt n ((upd I_213 23 (nI (k9 + 1)))) ((tw_u (tw_u (tw_u F 22 (4 * k9) (nI 2)) 22 (4 * k9 + 1) (nI v_175)) 22 (4 * k9 + 2) (nI v_190))) := ⟨(tw_un (by decide)).trans hX.1, hX.2⟩
                have hxi : exI [16, 17, 18, 19, 20, 21, 23] I ((upd I_213 23 (nI (k9 + 1)))) := hxi.tr (exI.u (by decide))
                have hF := hF.put hq_223 (hMP x (.inl rfl))
                have hP : PS bt n (.ok q_213) ((upd I_213 23 (nI (k9 + 1)))) := hP.cg (fun j h1 h2 => tw_un (by omega))
                have hk23 : ((upd I_213 23 (nI (k9 + 1)))) 23 = nI (k9 + 1) := tw_up _ _ _
                exact mm_vret hx hb hr hlk hS (Nat.le_of_ble_eq_true rfl) (Nat.le_of_ble_eq_true rfl) (⟨rfl, _, _, hT, hxi, ((eqx.u (by decide)).tr (eqx.u (by decide))).tr (eqx.u (by decide)), by rw [pM_4 (x := (2, v_175, v_190, 0)) (q := q_190) hk_1 c_27 (by simp only [pArg, hN_175, hN_190]) hN_213]; exact ⟨hP, hk23, ⟨(show 2 ≤ 4 by decide), by repeat (first | exact su_s | refine (su_n (by omega)).trans ?_), fun _ => by repeat (first | exact su_s | refine (su_n (by omega)).trans ?_), fun _ => by repeat (first | exact su_s | refine (su_n (by omega)).trans ?_), fun h => absurd (show (2 : Nat) = 1 from h) (by decide), fun h => absurd (show (2 : Nat) = 0 from h) (by decide)⟩, fun j hj => by (repeat (refine (su_n (by omega)).trans ?_)); rfl⟩⟩) dX8_parseStatement_226
        · exact absurd c_47 (by decide)
  · refine mm_top (y := nI 3) (by rw [hk_1]; rfl) ?_
    refine lv_istore_n (lv' := [(1, .int (nI 3)), (0, .ref x)]) hx hb dX8_parseStatement_4 rfl hl (by decide) rfl (fun ls hl => ?_)
    refine lv_aload_n hx hb dX8_parseStatement_5 rfl (lv_at hl 1 rfl) ?_
    refine lv_iload_n hx hb dX8_parseStatement_6 rfl (lv_at hl 0 rfl) ?_
    refine lv_iconst (v := (-1)) hx hb dX8_parseStatement_7 (by decide) ?_
    refine lv_icmp_eq (tgt := 15) hx hb dX8_parseStatement_8 (by decide) (fun c_8 => ?_) (fun c_8 => ?_)
    · exact absurd c_8 (by decide)
    · refine lv_iconst (v := nI 1) hx hb dX8_parseStatement_11 (by decide) ?_
      refine mm_top (y := mm_b true) rfl ?_
      refine lv_goto (tgt := 16) hx hb dX8_parseStatement_12 (by decide) ?_
      refine lv_iconst (v := nI 1) hx hb dX8_parseStatement_16 (by decide) ?_
      refine mm_rv (va_runV (As := [.int (mm_b true), .int (nI 1)]) (rest := []) ⟨hx, hb, hml, hown, hts⟩ (t_expect l hT hX hP (by decide) (by decide)) (cwV 2 hts (lw_V q2655 q2657 qs69 q164 q2658) rfl rfl rfl (by decide +kernel) ⟨Nat.le_of_ble_eq_true rfl, Nat.le_of_ble_eq_true rfl⟩) (mm_pV hKK (mm_rc hKK hT.2.1 mm_le.rf rfl)) rfl rfl hl.1 rfl (lv_room (Nat.le_of_ble_eq_true rfl)) dX8_parseStatement_17 ⟨Nat.le_of_ble_eq_true rfl, Nat.le_of_ble_eq_true rfl⟩) hS (mm_sS hS) (fun H_17 L_17 hB_17 hz_17 hq_17 hS => ?_)
      obtain ⟨I_17, hT, hx_17, hP⟩ := hB_17
      have hxi := hxi.tr (hx_17.mono (by decide))
      have hX : TX_ bt n I_17 F := ⟨(hx_17 13 (by decide)).trans hX.1, hX.2.1, hX.2.2⟩
      have hF := hF.keep hq_17 hMP
      have hk23 := (hx_17 23 (by decide)).trans hk23
      have hP : PS bt n (.ok p9) I_17 := hP
      have hbd_p9 := tk_bd (b := bt) (show p9 ≤ n from hP.1)
      refine lv_aload_n hx hb dX8_parseStatement_20 rfl (lv_at hl 1 rfl) ?_
      refine lv_aload_n hx hb dX8_parseStatement_21 rfl (lv_at hl 1 rfl) ?_
      refine tw_geti 23 (v := nI k9) hx hb hts hown hKK hT (by decide) rfl (hk23) (hts _ q2521) dX8_parseStatement_22 ?_
      refine lv_bipush (v := nI 30) hx hb dX8_parseStatement_25 (by decide) ?_
      refine mm_icmp_ge (tgt := 34) (by omega) (by omega) hx hb dX8_parseStatement_27 (by decide) (fun c_27 => ?_) (fun c_27 => ?_)
      · refine lv_iconst (v := nI 0) hx hb dX8_parseStatement_34 (by decide) ?_
        refine mm_top (y := mm_b false) rfl ?_
        refine lv_iconst (v := nI 3) hx hb dX8_parseStatement_35 (by decide) ?_
        refine mm_rv (va_runV (As := [.int (mm_b false), .int (nI 3)]) (rest := []) ⟨hx, hb, hml, hown, hts⟩ (t_expect l hT hX hP (by decide) (by decide)) (cwV 2 hts (lw_V q2655 q2657 qs69 q164 q2658) rfl rfl rfl (by decide +kernel) ⟨Nat.le_of_ble_eq_true rfl, Nat.le_of_ble_eq_true rfl⟩) (mm_pV hKK (mm_rc hKK hT.2.1 mm_le.rf rfl)) rfl rfl hl.1 rfl (lv_room (Nat.le_of_ble_eq_true rfl)) dX8_parseStatement_36 ⟨Nat.le_of_ble_eq_true rfl, Nat.le_of_ble_eq_true rfl⟩) hS (mm_sS hS) (fun H_36 L_36 hB_36 hz_36 hq_36 hS => ?_)
        obtain ⟨I_36, hT, hx_36, hP⟩ := hB_36
        have hxi := hxi.tr (hx_36.mono (by decide))
        have hX : TX_ bt n I_36 F := ⟨(hx_36 13 (by decide)).trans hX.1, hX.2.1, hX.2.2⟩
        have hF := hF.keep hq_36 hMP
        have hk23 := (hx_36 23 (by decide)).trans hk23
        have hP : PS bt n (.error (3, tkS bt n p9)) I_36 := hP
        have hce_78 := hP.1
        refine lv_aload_n hx hb dX8_parseStatement_39 rfl (lv_at hl 1 rfl) ?_
        refine mm_rv (va_runV (As := []) (rest := []) ⟨hx, hb, hml, hown, hts⟩ (t_advance l hT hX hP) (cwV 0 hts (lw_V q2618 q2620 qs64 q164 q2621) rfl rfl rfl (by decide +kernel) ⟨Nat.le_of_ble_eq_true rfl, Nat.le_of_ble_eq_true rfl⟩) (mm_pV hKK (mm_rc hKK hT.2.1 mm_le.rf rfl)) rfl rfl hl.1 rfl (lv_room (Nat.le_of_ble_eq_true rfl)) dX8_parseStatement_40 ⟨Nat.le_of_ble_eq_true rfl, Nat.le_of_ble_eq_true rfl⟩) hS (mm_sS hS) (fun H_40 L_40 hB_40 hz_40 hq_40 hS => ?_)
        obtain ⟨I_40, hT, hx_40, hP⟩ := hB_40
        have hxi := hxi.tr (hx_40.mono (by decide))
        have hX : TX_ bt n I_40 F := ⟨(hx_40 13 (by decide)).trans hX.1, hX.2.1, hX.2.2⟩
        have hF := hF.keep hq_40 hMP
        have hk23 := (hx_40 23 (by decide)).trans hk23
        have hP : PS bt n (.error (3, tkS bt n p9)) I_40 := hP
        have hce_79 := hP.1
        refine lv_aload_n hx hb dX8_parseStatement_43 rfl (lv_at hl 1 rfl) ?_
        refine tw_geti 20 (v := nI 3) hx hb hts hown hKK hT (by decide) rfl (hP.2.1) (hts _ q2518) dX8_parseStatement_44 ?_
        refine mm_if_le (tgt := 51) (by omega) hx hb dX8_parseStatement_47 (by decide) (fun c_47 => ?_) (fun c_47 => ?_)
        · exact absurd c_47 (by decide)
        · exact mm_vret hx hb hr hlk hS (Nat.le_of_ble_eq_true rfl) (Nat.le_of_ble_eq_true rfl) (⟨rfl, _, F, hT, hxi, eqx.rf, by rw [pM_1 hk_1 (by omega)]; exact hP⟩) dX8_parseStatement_50
      · refine lv_iconst (v := nI 1) hx hb dX8_parseStatement_30 (by decide) ?_
        refine mm_top (y := mm_b true) rfl ?_
        refine lv_goto (tgt := 35) hx hb dX8_parseStatement_31 (by decide) ?_
        refine lv_iconst (v := nI 3) hx hb dX8_parseStatement_35 (by decide) ?_
        refine mm_rv (va_runV (As := [.int (mm_b true), .int (nI 3)]) (rest := []) ⟨hx, hb, hml, hown, hts⟩ (t_expect l hT hX hP (by decide) (by decide)) (cwV 2 hts (lw_V q2655 q2657 qs69 q164 q2658) rfl rfl rfl (by decide +kernel) ⟨Nat.le_of_ble_eq_true rfl, Nat.le_of_ble_eq_true rfl⟩) (mm_pV hKK (mm_rc hKK hT.2.1 mm_le.rf rfl)) rfl rfl hl.1 rfl (lv_room (Nat.le_of_ble_eq_true rfl)) dX8_parseStatement_36 ⟨Nat.le_of_ble_eq_true rfl, Nat.le_of_ble_eq_true rfl⟩) hS (mm_sS hS) (fun H_36 L_36 hB_36 hz_36 hq_36 hS => ?_)
        obtain ⟨I_36, hT, hx_36, hP⟩ := hB_36
        have hxi := hxi.tr (hx_36.mono (by decide))
        have hX : TX_ bt n I_36 F := ⟨(hx_36 13 (by decide)).trans hX.1, hX.2.1, hX.2.2⟩
        have hF := hF.keep hq_36 hMP
        have hk23 := (hx_36 23 (by decide)).trans hk23
        have hP : PS bt n (.ok p9) I_36 := hP
        have hbd_p9 := tk_bd (b := bt) (show p9 ≤ n from hP.1)
        refine lv_aload_n hx hb dX8_parseStatement_39 rfl (lv_at hl 1 rfl) ?_
        refine mm_rv (va_runV (As := []) (rest := []) ⟨hx, hb, hml, hown, hts⟩ (t_advance l hT hX hP) (cwV 0 hts (lw_V q2618 q2620 qs64 q164 q2621) rfl rfl rfl (by decide +kernel) ⟨Nat.le_of_ble_eq_true rfl, Nat.le_of_ble_eq_true rfl⟩) (mm_pV hKK (mm_rc hKK hT.2.1 mm_le.rf rfl)) rfl rfl hl.1 rfl (lv_room (Nat.le_of_ble_eq_true rfl)) dX8_parseStatement_40 ⟨Nat.le_of_ble_eq_true rfl, Nat.le_of_ble_eq_true rfl⟩) hS (mm_sS hS) (fun H_40 L_40 hB_40 hz_40 hq_40 hS => ?_)
        obtain ⟨I_40, hT, hx_40, hP⟩ := hB_40
        have hxi := hxi.tr (hx_40.mono (by decide))
        have hX : TX_ bt n I_40 F := ⟨(hx_40 13 (by decide)).trans hX.1, hX.2.1, hX.2.2⟩
        have hF := hF.keep hq_40 hMP
        have hk23 := (hx_40 23 (by decide)).trans hk23
        have hP : PS bt n (.ok (tkE bt n p9)) I_40 := hP
        have hbd_tkE_bt_n_p9 := tk_bd (b := bt) (show tkE bt n p9 ≤ n from hP.1)
        refine lv_aload_n hx hb dX8_parseStatement_43 rfl (lv_at hl 1 rfl) ?_
        refine tw_geti 20 (v := nI 0) hx hb hts hown hKK hT (by decide) rfl (hP.2.1) (hts _ q2518) dX8_parseStatement_44 ?_
        refine mm_if_le (tgt := 51) (by omega) hx hb dX8_parseStatement_47 (by decide) (fun c_47 => ?_) (fun c_47 => ?_)
        · refine lv_iconst (v := nI 4) hx hb dX8_parseStatement_51 (by decide) ?_
          refine lv_aload_n hx hb dX8_parseStatement_52 rfl (lv_at hl 1 rfl) ?_
          refine tw_geti 23 (v := nI k9) hx hb hts hown hKK hT (by decide) rfl (hk23) (hts _ q2521) dX8_parseStatement_53 ?_
          refine mm_imul hx hb dX8_parseStatement_56 ?_
          refine lv_istore_n (lv' := [(2, .int (nI (4 * k9))), (1, .int (nI 3)), (0, .ref x)]) hx hb dX8_parseStatement_57 rfl hl (by decide) rfl (fun ls hl => ?_)
          refine lv_aload_n hx hb dX8_parseStatement_58 rfl (lv_at hl 2 rfl) ?_
          refine tw_geta 22 hx hb hts hown hKK hT rfl rfl (hts _ q2520) dX8_parseStatement_59 ?_
          refine lv_iload_n hx hb dX8_parseStatement_62 rfl (lv_at hl 0 rfl) ?_
          refine lv_iload_n hx hb dX8_parseStatement_63 rfl (lv_at hl 1 rfl) ?_
          refine tw_st 22 (k := (4 * k9)) hx hb hKK hT hS hMa rfl rfl (by show _ < 120; omega) dX8_parseStatement_64 (fun H_64 L_64 hT hz_64 hq_64 hS => ?_)
          have hX : TX_ bt n I_40 ((tw_u F 22 (4 * k9) (nI 3))) := ⟨hX.1, hX.2.1, fun i hi => (congrFun (tw_uo (by decide)) i).trans (hX.2.2 i hi)⟩
          have hF := hF.put hq_64 (hMP _ (.inr ⟨22, rfl, rfl⟩))
          refine lv_iload_n hx hb dX8_parseStatement_65 rfl (lv_at hl 1 rfl) ?_
          refine lv_tableIn (off := 131) (tgt := 197) hx hb dX8_parseStatement_66 (by decide) (by decide) (by rfl) (by decide) ?_
          refine lv_aload_n hx hb dX8_parseStatement_197 rfl (lv_at hl 2 rfl) ?_
          refine tw_geta 22 hx hb hts hown hKK hT rfl rfl (hts _ q2520) dX8_parseStatement_198 ?_
          refine lv_iload_n hx hb dX8_parseStatement_201 rfl (lv_at hl 0 rfl) ?_
          refine lv_iconst (v := nI 1) hx hb dX8_parseStatement_202 (by decide) ?_
          refine mm_iadd hx hb dX8_parseStatement_203 ?_
          refine lv_aload_n hx hb dX8_parseStatement_204 rfl (lv_at hl 2 rfl) ?_
          refine mm_ri (va_runV (As := []) (rest := [.int (nI (4 * k9 + 1)), .ref (ad 22)]) ⟨hx, hb, hml, hown, hts⟩ (t_parseVersion l hT hX hP) (cwV 0 hts (lw_V q2693 q2695 qs76 q164 q2696) rfl rfl rfl (by decide +kernel) ⟨Nat.le_of_ble_eq_true rfl, Nat.le_of_ble_eq_true rfl⟩) (mm_pV hKK (mm_rc hKK hT.2.1 mm_le.rf rfl)) rfl rfl hl.1 rfl (lv_room (Nat.le_of_ble_eq_true rfl)) dX8_parseStatement_205 ⟨Nat.le_of_ble_eq_true rfl, Nat.le_of_ble_eq_true rfl⟩) hS (mm_sS hS) (fun H_205 L_205 hB_205 hz_205 hq_205 hS => ?_)
          obtain ⟨I_205, hT, hx_205, hP⟩ := hB_205
          have hxi := hxi.tr (hx_205.mono (by decide))
          have hX : TX_ bt n I_205 ((tw_u F 22 (4 * k9) (nI 3))) := ⟨(hx_205 13 (by decide)).trans hX.1, hX.2.1, hX.2.2⟩
          have hF := hF.keep hq_205 hMP
          have hk23 := (hx_205 23 (by decide)).trans hk23
          rcases hN_205 : pNum bt n (tkE bt n p9) 39 with ⟨c_205, o_205⟩ | ⟨v_205, q_205⟩
          · have hP : PS bt n (.error (c_205, o_205)) I_205 := by have hP : PS bt n (p_pos (pNum bt n (tkE bt n p9) 39)) I_205 := hP; rw [hN_205] at hP; exact hP
            have hce_80 := hP.1
            refine mm_top (y := nI 0) (by show nI (p_vN (pNum bt n (tkE bt n p9) 39)) = _; rw [hN_205]; rfl) ?_
            refine tw_st 22 (k := (4 * k9 + 1)) hx hb hKK hT hS hMa rfl rfl (by show _ < 120; omega) dX8_parseStatement_208 (fun H_208 L_208 hT hz_208 hq_208 hS => ?_)
            have hX : TX_ bt n I_205 ((tw_u (tw_u F 22 (4 * k9) (nI 3)) 22 (4 * k9 + 1) (nI 0))) := ⟨hX.1, hX.2.1, fun i hi => (congrFun (tw_uo (by decide)) i).trans (hX.2.2 i hi)⟩
            have hF := hF.put hq_208 (hMP _ (.inr ⟨22, rfl, rfl⟩))
            refine lv_goto (tgt := 212) hx hb dX8_parseStatement_209 (by decide) ?_
            refine lv_aload_n hx hb dX8_parseStatement_212 rfl (lv_at hl 2 rfl) ?_
            refine mm_rv (va_runV (As := []) (rest := []) ⟨hx, hb, hml, hown, hts⟩ (t_parseSemicolon l hT hX hP) (cwV 0 hts (lw_V q2668 q2670 qs72 q164 q2671) rfl rfl rfl (by decide +kernel) ⟨Nat.le_of_ble_eq_true rfl, Nat.le_of_ble_eq_true rfl⟩) (mm_pV hKK (mm_rc hKK hT.2.1 mm_le.rf rfl)) rfl rfl hl.1 rfl (lv_room (Nat.le_of_ble_eq_true rfl)) dX8_parseStatement_213 ⟨Nat.le_of_ble_eq_true rfl, Nat.le_of_ble_eq_true rfl⟩) hS (mm_sS hS) (fun H_213 L_213 hB_213 hz_213 hq_213 hS => ?_)
            obtain ⟨I_213, hT, hx_213, hP⟩ := hB_213
            have hxi := hxi.tr (hx_213.mono (by decide))
            have hX : TX_ bt n I_213 ((tw_u (tw_u F 22 (4 * k9) (nI 3)) 22 (4 * k9 + 1) (nI 0))) := ⟨(hx_213 13 (by decide)).trans hX.1, hX.2.1, hX.2.2⟩
            have hF := hF.keep hq_213 hMP
            have hk23 := (hx_213 23 (by decide)).trans hk23
            have hP : PS bt n (.error (c_205, o_205)) I_213 := hP
            have hce_81 := hP.1
            refine lv_aload_n hx hb dX8_parseStatement_216 rfl (lv_at hl 2 rfl) ?_
            refine lv_dup hx hb dX8_parseStatement_217 rfl ?_
            refine tw_geti 23 (v := nI k9) hx hb hts hown hKK hT (by decide) rfl (hk23) (hts _ q2521) dX8_parseStatement_218 ?_
            refine lv_iconst (v := nI 1) hx hb dX8_parseStatement_221 (by decide) ?_
            refine mm_iadd hx hb dX8_parseStatement_222 ?_
            refine tw_put 23 hx hb hts hown hKK hT hS (hMx) (by decide) rfl (by decide) ⟨rfl, rfl⟩ (hts _ q2521) dX8_parseStatement_223 (fun H_223 L_223 hT hz_223 hq_223 hS => ?_)
            have hX : TX_ bt n ((upd I_213 23 (nI (k9 + 1)))) ((tw_u (tw_u F 22 (4 * k9) (nI 3)) 22 (4 * k9 + 1) (nI 0))) := ⟨(tw_un (by decide)).trans hX.1, hX.2⟩
            have hxi : exI [16, 17, 18, 19, 20, 21, 23] I ((upd I_213 23 (nI (k9 + 1)))) := hxi.tr (exI.u (by decide))
            have hF := hF.put hq_223 (hMP x (.inl rfl))
            have hP : PS bt n (.error (c_205, o_205)) ((upd I_213 23 (nI (k9 + 1)))) := hP.cg (fun j h1 h2 => tw_un (by omega))
            have hk23 : ((upd I_213 23 (nI (k9 + 1)))) 23 = nI (k9 + 1) := tw_up _ _ _
            exact mm_vret hx hb hr hlk hS (Nat.le_of_ble_eq_true rfl) (Nat.le_of_ble_eq_true rfl) (⟨rfl, _, _, hT, hxi, (eqx.u (by decide)).tr (eqx.u (by decide)), by rw [pM_2 (e := (c_205, o_205)) hk_1 c_27 (by simp only [pArg, hN_205])]; exact hP⟩) dX8_parseStatement_226
          · have hP : PS bt n (.ok q_205) I_205 := by have hP : PS bt n (p_pos (pNum bt n (tkE bt n p9) 39)) I_205 := hP; rw [hN_205] at hP; exact hP
            have hbd_q_205 := tk_bd (b := bt) (show q_205 ≤ n from hP.1)
            have hle_205 := pNum_le hN_205
            refine mm_top (y := nI v_205) (by show nI (p_vN (pNum bt n (tkE bt n p9) 39)) = _; rw [hN_205]; rfl) ?_
            refine tw_st 22 (k := (4 * k9 + 1)) hx hb hKK hT hS hMa rfl rfl (by show _ < 120; omega) dX8_parseStatement_208 (fun H_208 L_208 hT hz_208 hq_208 hS => ?_)
            have hX : TX_ bt n I_205 ((tw_u (tw_u F 22 (4 * k9) (nI 3)) 22 (4 * k9 + 1) (nI v_205))) := ⟨hX.1, hX.2.1, fun i hi => (congrFun (tw_uo (by decide)) i).trans (hX.2.2 i hi)⟩
            have hF := hF.put hq_208 (hMP _ (.inr ⟨22, rfl, rfl⟩))
            refine lv_goto (tgt := 212) hx hb dX8_parseStatement_209 (by decide) ?_
            refine lv_aload_n hx hb dX8_parseStatement_212 rfl (lv_at hl 2 rfl) ?_
            refine mm_rv (va_runV (As := []) (rest := []) ⟨hx, hb, hml, hown, hts⟩ (t_parseSemicolon l hT hX hP) (cwV 0 hts (lw_V q2668 q2670 qs72 q164 q2671) rfl rfl rfl (by decide +kernel) ⟨Nat.le_of_ble_eq_true rfl, Nat.le_of_ble_eq_true rfl⟩) (mm_pV hKK (mm_rc hKK hT.2.1 mm_le.rf rfl)) rfl rfl hl.1 rfl (lv_room (Nat.le_of_ble_eq_true rfl)) dX8_parseStatement_213 ⟨Nat.le_of_ble_eq_true rfl, Nat.le_of_ble_eq_true rfl⟩) hS (mm_sS hS) (fun H_213 L_213 hB_213 hz_213 hq_213 hS => ?_)
            obtain ⟨I_213, hT, hx_213, hP⟩ := hB_213
            have hxi := hxi.tr (hx_213.mono (by decide))
            have hX : TX_ bt n I_213 ((tw_u (tw_u F 22 (4 * k9) (nI 3)) 22 (4 * k9 + 1) (nI v_205))) := ⟨(hx_213 13 (by decide)).trans hX.1, hX.2.1, hX.2.2⟩
            have hF := hF.keep hq_213 hMP
            have hk23 := (hx_213 23 (by decide)).trans hk23
            rcases hN_213 : pSem bt n q_205 with ⟨c_213, o_213⟩ | q_213
            · have hP : PS bt n (.error (c_213, o_213)) I_213 := by have hP : PS bt n (pSem bt n q_205) I_213 := hP; rw [hN_213] at hP; exact hP
              have hce_82 := hP.1
              refine lv_aload_n hx hb dX8_parseStatement_216 rfl (lv_at hl 2 rfl) ?_
              refine lv_dup hx hb dX8_parseStatement_217 rfl ?_
              refine tw_geti 23 (v := nI k9) hx hb hts hown hKK hT (by decide) rfl (hk23) (hts _ q2521) dX8_parseStatement_218 ?_
              refine lv_iconst (v := nI 1) hx hb dX8_parseStatement_221 (by decide) ?_
              refine mm_iadd hx hb dX8_parseStatement_222 ?_
              refine tw_put 23 hx hb hts hown hKK hT hS (hMx) (by decide) rfl (by decide) ⟨rfl, rfl⟩ (hts _ q2521) dX8_parseStatement_223 (fun H_223 L_223 hT hz_223 hq_223 hS => ?_)
              have hX : TX_ bt n ((upd I_213 23 (nI (k9 + 1)))) ((tw_u (tw_u F 22 (4 * k9) (nI 3)) 22 (4 * k9 + 1) (nI v_205))) := ⟨(tw_un (by decide)).trans hX.1, hX.2⟩
              have hxi : exI [16, 17, 18, 19, 20, 21, 23] I ((upd I_213 23 (nI (k9 + 1)))) := hxi.tr (exI.u (by decide))
              have hF := hF.put hq_223 (hMP x (.inl rfl))
              have hP : PS bt n (.error (c_213, o_213)) ((upd I_213 23 (nI (k9 + 1)))) := hP.cg (fun j h1 h2 => tw_un (by omega))
              have hk23 : ((upd I_213 23 (nI (k9 + 1)))) 23 = nI (k9 + 1) := tw_up _ _ _
              exact mm_vret hx hb hr hlk hS (Nat.le_of_ble_eq_true rfl) (Nat.le_of_ble_eq_true rfl) (⟨rfl, _, _, hT, hxi, (eqx.u (by decide)).tr (eqx.u (by decide)), by rw [pM_3 (x := (3, v_205, 0, 0)) (q := q_205) hk_1 c_27 (by simp only [pArg, hN_205]) hN_213]; exact hP⟩) dX8_parseStatement_226
            · have hP : PS bt n (.ok q_213) I_213 := by have hP : PS bt n (pSem bt n q_205) I_213 := hP; rw [hN_213] at hP; exact hP
              have hbd_q_213 := tk_bd (b := bt) (show q_213 ≤ n from hP.1)
              refine lv_aload_n hx hb dX8_parseStatement_216 rfl (lv_at hl 2 rfl) ?_
              refine lv_dup hx hb dX8_parseStatement_217 rfl ?_
              refine tw_geti 23 (v := nI k9) hx hb hts hown hKK hT (by decide) rfl (hk23) (hts _ q2521) dX8_parseStatement_218 ?_
              refine lv_iconst (v := nI 1) hx hb dX8_parseStatement_221 (by decide) ?_
              refine mm_iadd hx hb dX8_parseStatement_222 ?_
              refine tw_put 23 hx hb hts hown hKK hT hS (hMx) (by decide) rfl (by decide) ⟨rfl, rfl⟩ (hts _ q2521) dX8_parseStatement_223 (fun H_223 L_223 hT hz_223 hq_223 hS => ?_)
              have hX : TX_ bt n ((upd I_213 23 (nI (k9 + 1)))) ((tw_u (tw_u F 22 (4 * k9) (nI 3)) 22 (4 * k9 + 1) (nI v_205))) := ⟨(tw_un (by decide)).trans hX.1, hX.2⟩
              have hxi : exI [16, 17, 18, 19, 20, 21, 23] I ((upd I_213 23 (nI (k9 + 1)))) := hxi.tr (exI.u (by decide))
              have hF := hF.put hq_223 (hMP x (.inl rfl))
              have hP : PS bt n (.ok q_213) ((upd I_213 23 (nI (k9 + 1)))) := hP.cg (fun j h1 h2 => tw_un (by omega))
              have hk23 : ((upd I_213 23 (nI (k9 + 1)))) 23 = nI (k9 + 1) := tw_up _ _ _
              exact mm_vret hx hb hr hlk hS (Nat.le_of_ble_eq_true rfl) (Nat.le_of_ble_eq_true rfl) (⟨rfl, _, _, hT, hxi, (eqx.u (by decide)).tr (eqx.u (by decide)), by rw [pM_4 (x := (3, v_205, 0, 0)) (q := q_205) hk_1 c_27 (by simp only [pArg, hN_205]) hN_213]; exact ⟨hP, hk23, ⟨(show 3 ≤ 4 by decide), by repeat (first | exact su_s | refine (su_n (by omega)).trans ?_), fun _ => by repeat (first | exact su_s | refine (su_n (by omega)).trans ?_), fun h => absurd (show (3 : Nat) = 0 ∨ (3 : Nat) = 2 from h) (by decide), fun h => absurd (show (3 : Nat) = 1 from h) (by decide), fun h => absurd (show (3 : Nat) = 0 from h) (by decide)⟩, fun j hj => by (repeat (refine (su_n (by omega)).trans ?_)); rfl⟩⟩) dX8_parseStatement_226
        · exact absurd c_47 (by decide)
  · refine mm_top (y := nI 4) (by rw [hk_1]; rfl) ?_
    refine lv_istore_n (lv' := [(1, .int (nI 4)), (0, .ref x)]) hx hb dX8_parseStatement_4 rfl hl (by decide) rfl (fun ls hl => ?_)
    refine lv_aload_n hx hb dX8_parseStatement_5 rfl (lv_at hl 1 rfl) ?_
    refine lv_iload_n hx hb dX8_parseStatement_6 rfl (lv_at hl 0 rfl) ?_
    refine lv_iconst (v := (-1)) hx hb dX8_parseStatement_7 (by decide) ?_
    refine lv_icmp_eq (tgt := 15) hx hb dX8_parseStatement_8 (by decide) (fun c_8 => ?_) (fun c_8 => ?_)
    · exact absurd c_8 (by decide)
    · refine lv_iconst (v := nI 1) hx hb dX8_parseStatement_11 (by decide) ?_
      refine mm_top (y := mm_b true) rfl ?_
      refine lv_goto (tgt := 16) hx hb dX8_parseStatement_12 (by decide) ?_
      refine lv_iconst (v := nI 1) hx hb dX8_parseStatement_16 (by decide) ?_
      refine mm_rv (va_runV (As := [.int (mm_b true), .int (nI 1)]) (rest := []) ⟨hx, hb, hml, hown, hts⟩ (t_expect l hT hX hP (by decide) (by decide)) (cwV 2 hts (lw_V q2655 q2657 qs69 q164 q2658) rfl rfl rfl (by decide +kernel) ⟨Nat.le_of_ble_eq_true rfl, Nat.le_of_ble_eq_true rfl⟩) (mm_pV hKK (mm_rc hKK hT.2.1 mm_le.rf rfl)) rfl rfl hl.1 rfl (lv_room (Nat.le_of_ble_eq_true rfl)) dX8_parseStatement_17 ⟨Nat.le_of_ble_eq_true rfl, Nat.le_of_ble_eq_true rfl⟩) hS (mm_sS hS) (fun H_17 L_17 hB_17 hz_17 hq_17 hS => ?_)
      obtain ⟨I_17, hT, hx_17, hP⟩ := hB_17
      have hxi := hxi.tr (hx_17.mono (by decide))
      have hX : TX_ bt n I_17 F := ⟨(hx_17 13 (by decide)).trans hX.1, hX.2.1, hX.2.2⟩
      have hF := hF.keep hq_17 hMP
      have hk23 := (hx_17 23 (by decide)).trans hk23
      have hP : PS bt n (.ok p9) I_17 := hP
      have hbd_p9 := tk_bd (b := bt) (show p9 ≤ n from hP.1)
      refine lv_aload_n hx hb dX8_parseStatement_20 rfl (lv_at hl 1 rfl) ?_
      refine lv_aload_n hx hb dX8_parseStatement_21 rfl (lv_at hl 1 rfl) ?_
      refine tw_geti 23 (v := nI k9) hx hb hts hown hKK hT (by decide) rfl (hk23) (hts _ q2521) dX8_parseStatement_22 ?_
      refine lv_bipush (v := nI 30) hx hb dX8_parseStatement_25 (by decide) ?_
      refine mm_icmp_ge (tgt := 34) (by omega) (by omega) hx hb dX8_parseStatement_27 (by decide) (fun c_27 => ?_) (fun c_27 => ?_)
      · refine lv_iconst (v := nI 0) hx hb dX8_parseStatement_34 (by decide) ?_
        refine mm_top (y := mm_b false) rfl ?_
        refine lv_iconst (v := nI 3) hx hb dX8_parseStatement_35 (by decide) ?_
        refine mm_rv (va_runV (As := [.int (mm_b false), .int (nI 3)]) (rest := []) ⟨hx, hb, hml, hown, hts⟩ (t_expect l hT hX hP (by decide) (by decide)) (cwV 2 hts (lw_V q2655 q2657 qs69 q164 q2658) rfl rfl rfl (by decide +kernel) ⟨Nat.le_of_ble_eq_true rfl, Nat.le_of_ble_eq_true rfl⟩) (mm_pV hKK (mm_rc hKK hT.2.1 mm_le.rf rfl)) rfl rfl hl.1 rfl (lv_room (Nat.le_of_ble_eq_true rfl)) dX8_parseStatement_36 ⟨Nat.le_of_ble_eq_true rfl, Nat.le_of_ble_eq_true rfl⟩) hS (mm_sS hS) (fun H_36 L_36 hB_36 hz_36 hq_36 hS => ?_)
        obtain ⟨I_36, hT, hx_36, hP⟩ := hB_36
        have hxi := hxi.tr (hx_36.mono (by decide))
        have hX : TX_ bt n I_36 F := ⟨(hx_36 13 (by decide)).trans hX.1, hX.2.1, hX.2.2⟩
        have hF := hF.keep hq_36 hMP
        have hk23 := (hx_36 23 (by decide)).trans hk23
        have hP : PS bt n (.error (3, tkS bt n p9)) I_36 := hP
        have hce_83 := hP.1
        refine lv_aload_n hx hb dX8_parseStatement_39 rfl (lv_at hl 1 rfl) ?_
        refine mm_rv (va_runV (As := []) (rest := []) ⟨hx, hb, hml, hown, hts⟩ (t_advance l hT hX hP) (cwV 0 hts (lw_V q2618 q2620 qs64 q164 q2621) rfl rfl rfl (by decide +kernel) ⟨Nat.le_of_ble_eq_true rfl, Nat.le_of_ble_eq_true rfl⟩) (mm_pV hKK (mm_rc hKK hT.2.1 mm_le.rf rfl)) rfl rfl hl.1 rfl (lv_room (Nat.le_of_ble_eq_true rfl)) dX8_parseStatement_40 ⟨Nat.le_of_ble_eq_true rfl, Nat.le_of_ble_eq_true rfl⟩) hS (mm_sS hS) (fun H_40 L_40 hB_40 hz_40 hq_40 hS => ?_)
        obtain ⟨I_40, hT, hx_40, hP⟩ := hB_40
        have hxi := hxi.tr (hx_40.mono (by decide))
        have hX : TX_ bt n I_40 F := ⟨(hx_40 13 (by decide)).trans hX.1, hX.2.1, hX.2.2⟩
        have hF := hF.keep hq_40 hMP
        have hk23 := (hx_40 23 (by decide)).trans hk23
        have hP : PS bt n (.error (3, tkS bt n p9)) I_40 := hP
        have hce_84 := hP.1
        refine lv_aload_n hx hb dX8_parseStatement_43 rfl (lv_at hl 1 rfl) ?_
        refine tw_geti 20 (v := nI 3) hx hb hts hown hKK hT (by decide) rfl (hP.2.1) (hts _ q2518) dX8_parseStatement_44 ?_
        refine mm_if_le (tgt := 51) (by omega) hx hb dX8_parseStatement_47 (by decide) (fun c_47 => ?_) (fun c_47 => ?_)
        · exact absurd c_47 (by decide)
        · exact mm_vret hx hb hr hlk hS (Nat.le_of_ble_eq_true rfl) (Nat.le_of_ble_eq_true rfl) (⟨rfl, _, F, hT, hxi, eqx.rf, by rw [pM_1 hk_1 (by omega)]; exact hP⟩) dX8_parseStatement_50
      · refine lv_iconst (v := nI 1) hx hb dX8_parseStatement_30 (by decide) ?_
        refine mm_top (y := mm_b true) rfl ?_
        refine lv_goto (tgt := 35) hx hb dX8_parseStatement_31 (by decide) ?_
        refine lv_iconst (v := nI 3) hx hb dX8_parseStatement_35 (by decide) ?_
        refine mm_rv (va_runV (As := [.int (mm_b true), .int (nI 3)]) (rest := []) ⟨hx, hb, hml, hown, hts⟩ (t_expect l hT hX hP (by decide) (by decide)) (cwV 2 hts (lw_V q2655 q2657 qs69 q164 q2658) rfl rfl rfl (by decide +kernel) ⟨Nat.le_of_ble_eq_true rfl, Nat.le_of_ble_eq_true rfl⟩) (mm_pV hKK (mm_rc hKK hT.2.1 mm_le.rf rfl)) rfl rfl hl.1 rfl (lv_room (Nat.le_of_ble_eq_true rfl)) dX8_parseStatement_36 ⟨Nat.le_of_ble_eq_true rfl, Nat.le_of_ble_eq_true rfl⟩) hS (mm_sS hS) (fun H_36 L_36 hB_36 hz_36 hq_36 hS => ?_)
        obtain ⟨I_36, hT, hx_36, hP⟩ := hB_36
        have hxi := hxi.tr (hx_36.mono (by decide))
        have hX : TX_ bt n I_36 F := ⟨(hx_36 13 (by decide)).trans hX.1, hX.2.1, hX.2.2⟩
        have hF := hF.keep hq_36 hMP
        have hk23 := (hx_36 23 (by decide)).trans hk23
        have hP : PS bt n (.ok p9) I_36 := hP
        have hbd_p9 := tk_bd (b := bt) (show p9 ≤ n from hP.1)
        refine lv_aload_n hx hb dX8_parseStatement_39 rfl (lv_at hl 1 rfl) ?_
        refine mm_rv (va_runV (As := []) (rest := []) ⟨hx, hb, hml, hown, hts⟩ (t_advance l hT hX hP) (cwV 0 hts (lw_V q2618 q2620 qs64 q164 q2621) rfl rfl rfl (by decide +kernel) ⟨Nat.le_of_ble_eq_true rfl, Nat.le_of_ble_eq_true rfl⟩) (mm_pV hKK (mm_rc hKK hT.2.1 mm_le.rf rfl)) rfl rfl hl.1 rfl (lv_room (Nat.le_of_ble_eq_true rfl)) dX8_parseStatement_40 ⟨Nat.le_of_ble_eq_true rfl, Nat.le_of_ble_eq_true rfl⟩) hS (mm_sS hS) (fun H_40 L_40 hB_40 hz_40 hq_40 hS => ?_)
        obtain ⟨I_40, hT, hx_40, hP⟩ := hB_40
        have hxi := hxi.tr (hx_40.mono (by decide))
        have hX : TX_ bt n I_40 F := ⟨(hx_40 13 (by decide)).trans hX.1, hX.2.1, hX.2.2⟩
        have hF := hF.keep hq_40 hMP
        have hk23 := (hx_40 23 (by decide)).trans hk23
        have hP : PS bt n (.ok (tkE bt n p9)) I_40 := hP
        have hbd_tkE_bt_n_p9 := tk_bd (b := bt) (show tkE bt n p9 ≤ n from hP.1)
        refine lv_aload_n hx hb dX8_parseStatement_43 rfl (lv_at hl 1 rfl) ?_
        refine tw_geti 20 (v := nI 0) hx hb hts hown hKK hT (by decide) rfl (hP.2.1) (hts _ q2518) dX8_parseStatement_44 ?_
        refine mm_if_le (tgt := 51) (by omega) hx hb dX8_parseStatement_47 (by decide) (fun c_47 => ?_) (fun c_47 => ?_)
        · refine lv_iconst (v := nI 4) hx hb dX8_parseStatement_51 (by decide) ?_
          refine lv_aload_n hx hb dX8_parseStatement_52 rfl (lv_at hl 1 rfl) ?_
          refine tw_geti 23 (v := nI k9) hx hb hts hown hKK hT (by decide) rfl (hk23) (hts _ q2521) dX8_parseStatement_53 ?_
          refine mm_imul hx hb dX8_parseStatement_56 ?_
          refine lv_istore_n (lv' := [(2, .int (nI (4 * k9))), (1, .int (nI 4)), (0, .ref x)]) hx hb dX8_parseStatement_57 rfl hl (by decide) rfl (fun ls hl => ?_)
          refine lv_aload_n hx hb dX8_parseStatement_58 rfl (lv_at hl 2 rfl) ?_
          refine tw_geta 22 hx hb hts hown hKK hT rfl rfl (hts _ q2520) dX8_parseStatement_59 ?_
          refine lv_iload_n hx hb dX8_parseStatement_62 rfl (lv_at hl 0 rfl) ?_
          refine lv_iload_n hx hb dX8_parseStatement_63 rfl (lv_at hl 1 rfl) ?_
          refine tw_st 22 (k := (4 * k9)) hx hb hKK hT hS hMa rfl rfl (by show _ < 120; omega) dX8_parseStatement_64 (fun H_64 L_64 hT hz_64 hq_64 hS => ?_)
          have hX : TX_ bt n I_40 ((tw_u F 22 (4 * k9) (nI 4))) := ⟨hX.1, hX.2.1, fun i hi => (congrFun (tw_uo (by decide)) i).trans (hX.2.2 i hi)⟩
          have hF := hF.put hq_64 (hMP _ (.inr ⟨22, rfl, rfl⟩))
          refine lv_iload_n hx hb dX8_parseStatement_65 rfl (lv_at hl 1 rfl) ?_
          refine lv_tableOut (tgt := 212) hx hb dX8_parseStatement_66 (by decide) (by decide) ?_
          refine lv_aload_n hx hb dX8_parseStatement_212 rfl (lv_at hl 2 rfl) ?_
          refine mm_rv (va_runV (As := []) (rest := []) ⟨hx, hb, hml, hown, hts⟩ (t_parseSemicolon l hT hX hP) (cwV 0 hts (lw_V q2668 q2670 qs72 q164 q2671) rfl rfl rfl (by decide +kernel) ⟨Nat.le_of_ble_eq_true rfl, Nat.le_of_ble_eq_true rfl⟩) (mm_pV hKK (mm_rc hKK hT.2.1 mm_le.rf rfl)) rfl rfl hl.1 rfl (lv_room (Nat.le_of_ble_eq_true rfl)) dX8_parseStatement_213 ⟨Nat.le_of_ble_eq_true rfl, Nat.le_of_ble_eq_true rfl⟩) hS (mm_sS hS) (fun H_213 L_213 hB_213 hz_213 hq_213 hS => ?_)
          obtain ⟨I_213, hT, hx_213, hP⟩ := hB_213
          have hxi := hxi.tr (hx_213.mono (by decide))
          have hX : TX_ bt n I_213 ((tw_u F 22 (4 * k9) (nI 4))) := ⟨(hx_213 13 (by decide)).trans hX.1, hX.2.1, hX.2.2⟩
          have hF := hF.keep hq_213 hMP
          have hk23 := (hx_213 23 (by decide)).trans hk23
          rcases hN_213 : pSem bt n (tkE bt n p9) with ⟨c_213, o_213⟩ | q_213
          · have hP : PS bt n (.error (c_213, o_213)) I_213 := by have hP : PS bt n (pSem bt n (tkE bt n p9)) I_213 := hP; rw [hN_213] at hP; exact hP
            have hce_85 := hP.1
            refine lv_aload_n hx hb dX8_parseStatement_216 rfl (lv_at hl 2 rfl) ?_
            refine lv_dup hx hb dX8_parseStatement_217 rfl ?_
            refine tw_geti 23 (v := nI k9) hx hb hts hown hKK hT (by decide) rfl (hk23) (hts _ q2521) dX8_parseStatement_218 ?_
            refine lv_iconst (v := nI 1) hx hb dX8_parseStatement_221 (by decide) ?_
            refine mm_iadd hx hb dX8_parseStatement_222 ?_
            refine tw_put 23 hx hb hts hown hKK hT hS (hMx) (by decide) rfl (by decide) ⟨rfl, rfl⟩ (hts _ q2521) dX8_parseStatement_223 (fun H_223 L_223 hT hz_223 hq_223 hS => ?_)
            have hX : TX_ bt n ((upd I_213 23 (nI (k9 + 1)))) ((tw_u F 22 (4 * k9) (nI 4))) := ⟨(tw_un (by decide)).trans hX.1, hX.2⟩
            have hxi : exI [16, 17, 18, 19, 20, 21, 23] I ((upd I_213 23 (nI (k9 + 1)))) := hxi.tr (exI.u (by decide))
            have hF := hF.put hq_223 (hMP x (.inl rfl))
            have hP : PS bt n (.error (c_213, o_213)) ((upd I_213 23 (nI (k9 + 1)))) := hP.cg (fun j h1 h2 => tw_un (by omega))
            have hk23 : ((upd I_213 23 (nI (k9 + 1)))) 23 = nI (k9 + 1) := tw_up _ _ _
            exact mm_vret hx hb hr hlk hS (Nat.le_of_ble_eq_true rfl) (Nat.le_of_ble_eq_true rfl) (⟨rfl, _, _, hT, hxi, eqx.u (by decide), by rw [pM_3 (x := (4, 0, 0, 0)) (q := (tkE bt n p9)) hk_1 c_27 (by simp only [pArg]) hN_213]; exact hP⟩) dX8_parseStatement_226
          · have hP : PS bt n (.ok q_213) I_213 := by have hP : PS bt n (pSem bt n (tkE bt n p9)) I_213 := hP; rw [hN_213] at hP; exact hP
            have hbd_q_213 := tk_bd (b := bt) (show q_213 ≤ n from hP.1)
            refine lv_aload_n hx hb dX8_parseStatement_216 rfl (lv_at hl 2 rfl) ?_
            refine lv_dup hx hb dX8_parseStatement_217 rfl ?_
            refine tw_geti 23 (v := nI k9) hx hb hts hown hKK hT (by decide) rfl (hk23) (hts _ q2521) dX8_parseStatement_218 ?_
            refine lv_iconst (v := nI 1) hx hb dX8_parseStatement_221 (by decide) ?_
            refine mm_iadd hx hb dX8_parseStatement_222 ?_
            refine tw_put 23 hx hb hts hown hKK hT hS (hMx) (by decide) rfl (by decide) ⟨rfl, rfl⟩ (hts _ q2521) dX8_parseStatement_223 (fun H_223 L_223 hT hz_223 hq_223 hS => ?_)
            have hX : TX_ bt n ((upd I_213 23 (nI (k9 + 1)))) ((tw_u F 22 (4 * k9) (nI 4))) := ⟨(tw_un (by decide)).trans hX.1, hX.2⟩
            have hxi : exI [16, 17, 18, 19, 20, 21, 23] I ((upd I_213 23 (nI (k9 + 1)))) := hxi.tr (exI.u (by decide))
            have hF := hF.put hq_223 (hMP x (.inl rfl))
            have hP : PS bt n (.ok q_213) ((upd I_213 23 (nI (k9 + 1)))) := hP.cg (fun j h1 h2 => tw_un (by omega))
            have hk23 : ((upd I_213 23 (nI (k9 + 1)))) 23 = nI (k9 + 1) := tw_up _ _ _
            exact mm_vret hx hb hr hlk hS (Nat.le_of_ble_eq_true rfl) (Nat.le_of_ble_eq_true rfl) (⟨rfl, _, _, hT, hxi, eqx.u (by decide), by rw [pM_4 (x := (4, 0, 0, 0)) (q := (tkE bt n p9)) hk_1 c_27 (by simp only [pArg]) hN_213]; exact ⟨hP, hk23, ⟨(show 4 ≤ 4 by decide), by repeat (first | exact su_s | refine (su_n (by omega)).trans ?_), fun h => absurd (show (4 : Nat) ≤ 3 from h) (by decide), fun h => absurd (show (4 : Nat) = 0 ∨ (4 : Nat) = 2 from h) (by decide), fun h => absurd (show (4 : Nat) = 1 from h) (by decide), fun h => absurd (show (4 : Nat) = 0 from h) (by decide)⟩, fun j hj => by (repeat (refine (su_n (by omega)).trans ?_)); rfl⟩⟩) dX8_parseStatement_226
        · exact absurd c_47 (by decide)
