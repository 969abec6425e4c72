/-! the twin: tokens (printed by tools/tw18.py) -/
set_option maxRecDepth 100000 in
theorem t_isLetter (l : Launch) {G : mm_G} {P : mm_H} {H : Heap} {x : Nat} {ad : Nat → Nat} {I : Nat → Int32} {F : Nat → Nat → Int32} {bt : Nat → Int32} {n : Nat} {i : Nat} (hT : TW G x ad I F H) (hX : TX_ bt n I F) (hi9 : i ≤ n) : Mt l yX8_isLetter (ws_ yX8_isLetter cX8_isLetter 2 (some .boolean)) 3 60 0 0 G P [.ref x, .int (nI i)] H mm_0 (mm_pu (.int (mm_b (bL bt n i))) H) := by
  refine Mt.of (by decide) (Nat.le_of_ble_eq_true rfl) (fun p e s m below meth c ls hx hb hr hlk hml hown hnm hts hKK hsH hl hS => ?_)
  have hl : lv_has ls 2 [(0, .ref x), (1, .int (nI i))] := hl
  have hn6 := hX.2.1
  refine lv_iload_n hx hb dX8_isLetter_0 rfl (lv_at hl 1 rfl) ?_
  refine lv_aload_n hx hb dX8_isLetter_1 rfl (lv_at hl 0 rfl) ?_
  refine tw_geti 13 (v := nI n) hx hb hts hown hKK hT (by decide) rfl (hX.1) (hts _ q2511) dX8_isLetter_2 ?_
  refine mm_icmp_ge (tgt := 31) (by omega) (by omega) hx hb dX8_isLetter_5 (by decide) (fun c_5 => ?_) (fun c_5 => ?_)
  · refine lv_iconst (v := nI 0) hx hb dX8_isLetter_31 (by decide) ?_
    exact mm_zret (v := nI 0) hx hb hr hlk hS (Nat.le_of_ble_eq_true rfl) (Nat.le_of_ble_eq_true rfl) (rfl) (⟨by unfold bL; first | exact mm_e1 (by rw [decide_eq_true (show i < n by omega), c_24]; rfl) | exact mm_e0 (by rw [c_24, Bool.and_false]) | exact mm_e0 (by rw [decide_eq_false (by omega)]; rfl), rfl⟩) dX8_isLetter_32
  · refine lv_aload_n hx hb dX8_isLetter_8 rfl (lv_at hl 0 rfl) ?_
    refine tw_geta 12 hx hb hts hown hKK hT rfl rfl (hts _ q2510) dX8_isLetter_9 ?_
    refine lv_iload_n hx hb dX8_isLetter_12 rfl (lv_at hl 1 rfl) ?_
    refine mm_bald (k := i) hx hb hKK (hT.2.2 12 rfl) mm_le.rf (by show _ < 600; omega) (by decide) dX8_isLetter_13 ?_
    refine mm_top (y := bt i) (hX.2.2 i (by omega)) ?_
    refine lv_i2l (v := (bt i).toInt64) hx hb dX8_isLetter_14 rfl ?_
    refine lv_ldc2 (v := 97) hx hb hown (hts _ q2626) dX8_isLetter_15 ?_
    refine lv_ldc2 (v := 122) hx hb hown (hts _ q2627) dX8_isLetter_18 ?_
    refine mm_rpu (va_runS (As := [.long ((bt i).toInt64), .long 97, .long 122]) (rest := []) ⟨hx, hb, hml, hown, hts⟩ (t_isWithin l ) (va_cwS 3 hts (lw_S q2599 q2600 q164 q2601) rfl rfl rfl (by decide +kernel) ⟨Nat.le_of_ble_eq_true rfl, Nat.le_of_ble_eq_true rfl⟩) (mm_pS hKK) rfl rfl hl.1 rfl (lv_room (Nat.le_of_ble_eq_true rfl)) dX8_isLetter_21 ⟨Nat.le_of_ble_eq_true rfl, Nat.le_of_ble_eq_true rfl⟩) hS (mm_s0 hS) (fun L_21 hS => ?_)
    refine mm_top (y := mm_b (decide (97 ≤ (bt i).toInt ∧ (bt i).toInt ≤ 122))) (congrArg mm_b (w_bt (bt i) 97 122)) ?_
    refine mm_ifeqB (tgt := 31) hx hb dX8_isLetter_24 (by decide) (fun c_24 => ?_) (fun c_24 => ?_)
    · refine lv_iconst (v := nI 0) hx hb dX8_isLetter_31 (by decide) ?_
      exact mm_zret (v := nI 0) hx hb hr hlk hS (Nat.le_of_ble_eq_true rfl) (Nat.le_of_ble_eq_true rfl) (rfl) (⟨by unfold bL; first | exact mm_e1 (by rw [decide_eq_true (show i < n by omega), c_24]; rfl) | exact mm_e0 (by rw [c_24, Bool.and_false]) | exact mm_e0 (by rw [decide_eq_false (by omega)]; rfl), rfl⟩) dX8_isLetter_32
    · refine lv_iconst (v := nI 1) hx hb dX8_isLetter_27 (by decide) ?_
      refine lv_goto (tgt := 32) hx hb dX8_isLetter_28 (by decide) ?_
      exact mm_zret (v := nI 1) hx hb hr hlk hS (Nat.le_of_ble_eq_true rfl) (Nat.le_of_ble_eq_true rfl) (rfl) (⟨by unfold bL; first | exact mm_e1 (by rw [decide_eq_true (show i < n by omega), c_24]; rfl) | exact mm_e0 (by rw [c_24, Bool.and_false]) | exact mm_e0 (by rw [decide_eq_false (by omega)]; rfl), rfl⟩) dX8_isLetter_32
set_option maxRecDepth 100000 in
theorem t_isDigit (l : Launch) {G : mm_G} {P : mm_H} {H : Heap} {x : Nat} {ad : Nat → Nat} {I : Nat → Int32} {F : Nat → Nat → Int32} {bt : Nat → Int32} {n : Nat} {i : Nat} (hT : TW G x ad I F H) (hX : TX_ bt n I F) (hi9 : i ≤ n) : Mt l yX8_isDigit (ws_ yX8_isDigit cX8_isDigit 2 (some .boolean)) 3 60 0 0 G P [.ref x, .int (nI i)] H mm_0 (mm_pu (.int (mm_b (bD bt n i))) H) := by
  refine Mt.of (by decide) (Nat.le_of_ble_eq_true rfl) (fun p e s m below meth c ls hx hb hr hlk hml hown hnm hts hKK hsH hl hS => ?_)
  have hl : lv_has ls 2 [(0, .ref x), (1, .int (nI i))] := hl
  have hn6 := hX.2.1
  refine lv_iload_n hx hb dX8_isDigit_0 rfl (lv_at hl 1 rfl) ?_
  refine lv_aload_n hx hb dX8_isDigit_1 rfl (lv_at hl 0 rfl) ?_
  refine tw_geti 13 (v := nI n) hx hb hts hown hKK hT (by decide) rfl (hX.1) (hts _ q2511) dX8_isDigit_2 ?_
  refine mm_icmp_ge (tgt := 31) (by omega) (by omega) hx hb dX8_isDigit_5 (by decide) (fun c_5 => ?_) (fun c_5 => ?_)
  · refine lv_iconst (v := nI 0) hx hb dX8_isDigit_31 (by decide) ?_
    exact mm_zret (v := nI 0) hx hb hr hlk hS (Nat.le_of_ble_eq_true rfl) (Nat.le_of_ble_eq_true rfl) (rfl) (⟨by unfold bD; first | exact mm_e1 (by rw [decide_eq_true (show i < n by omega), c_24]; rfl) | exact mm_e0 (by rw [c_24, Bool.and_false]) | exact mm_e0 (by rw [decide_eq_false (by omega)]; rfl), rfl⟩) dX8_isDigit_32
  · refine lv_aload_n hx hb dX8_isDigit_8 rfl (lv_at hl 0 rfl) ?_
    refine tw_geta 12 hx hb hts hown hKK hT rfl rfl (hts _ q2510) dX8_isDigit_9 ?_
    refine lv_iload_n hx hb dX8_isDigit_12 rfl (lv_at hl 1 rfl) ?_
    refine mm_bald (k := i) hx hb hKK (hT.2.2 12 rfl) mm_le.rf (by show _ < 600; omega) (by decide) dX8_isDigit_13 ?_
    refine mm_top (y := bt i) (hX.2.2 i (by omega)) ?_
    refine lv_i2l (v := (bt i).toInt64) hx hb dX8_isDigit_14 rfl ?_
    refine lv_ldc2 (v := 48) hx hb hown (hts _ q2632) dX8_isDigit_15 ?_
    refine lv_ldc2 (v := 57) hx hb hown (hts _ q2633) dX8_isDigit_18 ?_
    refine mm_rpu (va_runS (As := [.long ((bt i).toInt64), .long 48, .long 57]) (rest := []) ⟨hx, hb, hml, hown, hts⟩ (t_isWithin l ) (va_cwS 3 hts (lw_S q2599 q2600 q164 q2601) rfl rfl rfl (by decide +kernel) ⟨Nat.le_of_ble_eq_true rfl, Nat.le_of_ble_eq_true rfl⟩) (mm_pS hKK) rfl rfl hl.1 rfl (lv_room (Nat.le_of_ble_eq_true rfl)) dX8_isDigit_21 ⟨Nat.le_of_ble_eq_true rfl, Nat.le_of_ble_eq_true rfl⟩) hS (mm_s0 hS) (fun L_21 hS => ?_)
    refine mm_top (y := mm_b (decide (48 ≤ (bt i).toInt ∧ (bt i).toInt ≤ 57))) (congrArg mm_b (w_bt (bt i) 48 57)) ?_
    refine mm_ifeqB (tgt := 31) hx hb dX8_isDigit_24 (by decide) (fun c_24 => ?_) (fun c_24 => ?_)
    · refine lv_iconst (v := nI 0) hx hb dX8_isDigit_31 (by decide) ?_
      exact mm_zret (v := nI 0) hx hb hr hlk hS (Nat.le_of_ble_eq_true rfl) (Nat.le_of_ble_eq_true rfl) (rfl) (⟨by unfold bD; first | exact mm_e1 (by rw [decide_eq_true (show i < n by omega), c_24]; rfl) | exact mm_e0 (by rw [c_24, Bool.and_false]) | exact mm_e0 (by rw [decide_eq_false (by omega)]; rfl), rfl⟩) dX8_isDigit_32
    · refine lv_iconst (v := nI 1) hx hb dX8_isDigit_27 (by decide) ?_
      refine lv_goto (tgt := 32) hx hb dX8_isDigit_28 (by decide) ?_
      exact mm_zret (v := nI 1) hx hb hr hlk hS (Nat.le_of_ble_eq_true rfl) (Nat.le_of_ble_eq_true rfl) (rfl) (⟨by unfold bD; first | exact mm_e1 (by rw [decide_eq_true (show i < n by omega), c_24]; rfl) | exact mm_e0 (by rw [c_24, Bool.and_false]) | exact mm_e0 (by rw [decide_eq_false (by omega)]; rfl), rfl⟩) dX8_isDigit_32
set_option maxRecDepth 100000 in
theorem t_advanceOk (l : Launch) {G : mm_G} {P : mm_H} {H : Heap} {x : Nat} {ad : Nat → Nat} {I : Nat → Int32} {F : Nat → Nat → Int32} {bt : Nat → Int32} {n : Nat} {p9 : Nat} (hT : TW G x ad I F H) (hX : TX_ bt n I F) (h20 : I 20 = nI 0) (h17 : I 17 = nI p9) (hp9 : p9 ≤ n) : Mt l yX8_advanceToken (ws_ yX8_advanceToken cX8_advanceToken 1 none) 6 200 0 0 G P [.ref x] H (tw_M x ad) (mm_v (fun H2 => ∃ I2, TW G x ad I2 F H2 ∧ exI [16, 17, 18, 19] I I2 ∧ PS bt n (.ok p9) I2)) := by
  refine Mt.of (by decide) (Nat.le_of_ble_eq_true rfl) (fun p e s m below meth c ls hx hb hr hlk hml hown hnm hts hKK hsH hl hS => ?_)
  have hl : lv_has ls 1 [(0, .ref x)] := hl
  have hMx : mm_A (tw_M x ad) H x := Or.inl (Or.inl rfl)
  have hMa : ∀ j, tw_isA j = true → mm_A (tw_M x ad) H (ad j) := fun j hj => Or.inl (Or.inr ⟨j, hj, rfl⟩)
  have hn6 := hX.2.1
  refine lv_aload_n hx hb dX8_advanceToken_0 rfl (lv_at hl 0 rfl) ?_
  refine tw_geti 20 (v := nI 0) hx hb hts hown hKK hT (by decide) rfl (h20) (hts _ q2518) dX8_advanceToken_1 ?_
  refine mm_if_le (tgt := 8) (by omega) hx hb dX8_advanceToken_4 (by decide) (fun c_4 => ?_) (fun c_4 => ?_)
  · refine lv_aload_n hx hb dX8_advanceToken_8 rfl (lv_at hl 0 rfl) ?_
    refine lv_aload_n hx hb dX8_advanceToken_9 rfl (lv_at hl 0 rfl) ?_
    refine tw_geti 17 (v := nI p9) hx hb hts hown hKK hT (by decide) rfl (h17) (hts _ q2515) dX8_advanceToken_10 ?_
    refine tw_put 16 hx hb hts hown hKK hT hS (hMx) (by decide) rfl (by decide) ⟨rfl, rfl⟩ (hts _ q2514) dX8_advanceToken_13 (fun H_13 L_13 hT hz_13 hq_13 hS => ?_)
    have lp_16 : ∀ (fu : Nat) (q : Nat) (H1 : Heap) (I1 : Nat → Int32) (L : List Loc) (ls : Array Slot), n - q < fu → (q ≤ n) → (R_ (bS bt n) n q = tkS bt n p9) → lv_has ls 1 [(0, .ref x)] → (TW G x ad I1 F H1) → (exI [16, 17, 18, 19] I I1) → (I1 16 = nI q) → va_S (mm_A (tw_M x ad) H) H H1 L → W p l e (mm_rm 6 200 0 0) s m ([.ref x] : List Value).toArray below meth c H1 L 0 0 (MQ below (mm_Qc H (tw_M x ad) (mm_v (fun H2 => ∃ I2, TW G x ad I2 F H2 ∧ exI [16, 17, 18, 19] I I2 ∧ PS bt n (.ok p9) I2))) ([.ref x] : List Value).toArray s 0 0 (mm_A (tw_M x ad) H)) (F0 m 16 ls []) := by
      intro fu; induction fu with
      | zero => intro q H1 I1 L ls hfu; exact absurd hfu (Nat.not_lt_zero _)
      | succ fu ih =>
        intro q H1 I1 L ls hfu hq hR9 hl hT hxi h16 hS
        have ih_16 := ih
        refine lv_aload_n hx hb dX8_advanceToken_16 rfl (lv_at hl 0 rfl) ?_
        refine tw_geti 16 (v := nI q) hx hb hts hown hKK hT (by decide) rfl (h16) (hts _ q2514) dX8_advanceToken_17 ?_
        refine lv_aload_n hx hb dX8_advanceToken_20 rfl (lv_at hl 0 rfl) ?_
        refine tw_geti 13 (v := nI n) hx hb hts hown hKK hT (by decide) rfl ((hxi 13 (by decide)).trans hX.1) (hts _ q2511) dX8_advanceToken_21 ?_
        refine mm_icmp_ge (tgt := 68) (by omega) (by omega) hx hb dX8_advanceToken_24 (by decide) (fun c_24 => ?_) (fun c_24 => ?_)
        · have hS9 : tkS bt n p9 = q := by rw [← hR9]; exact R_f (bS_f (.inl (by omega)))
          refine lv_aload_n hx hb dX8_advanceToken_68 rfl (lv_at hl 0 rfl) ?_
          refine lv_aload_n hx hb dX8_advanceToken_69 rfl (lv_at hl 0 rfl) ?_
          refine tw_geti 16 (v := nI q) hx hb hts hown hKK hT (by decide) rfl (h16) (hts _ q2514) dX8_advanceToken_70 ?_
          refine tw_put 17 hx hb hts hown hKK hT hS (hMx) (by decide) rfl (by decide) ⟨rfl, rfl⟩ (hts _ q2515) dX8_advanceToken_73 (fun H_73 L_73 hT hz_73 hq_73 hS => ?_)
          refine lv_aload_n hx hb dX8_advanceToken_76 rfl (lv_at hl 0 rfl) ?_
          refine tw_geti 16 (v := nI q) hx hb hts hown hKK hT (by decide) rfl ((tw_un (by decide)).trans (h16)) (hts _ q2514) dX8_advanceToken_77 ?_
          refine lv_aload_n hx hb dX8_advanceToken_80 rfl (lv_at hl 0 rfl) ?_
          refine tw_geti 13 (v := nI n) hx hb hts hown hKK hT (by decide) rfl ((tw_un (by decide)).trans ((hxi 13 (by decide)).trans hX.1)) (hts _ q2511) dX8_advanceToken_81 ?_
          refine mm_icmp_ne (tgt := 95) (by omega) (by omega) hx hb dX8_advanceToken_84 (by decide) (fun c_84 => ?_) (fun c_84 => ?_)
          · have hX9 : TX_ bt n (upd I1 17 (nI q)) F := ⟨(tw_un (by decide)).trans ((hxi 13 (by decide)).trans hX.1), hX.2⟩
            refine lv_aload_n hx hb dX8_advanceToken_95 rfl (lv_at hl 0 rfl) ?_
            refine lv_aload_n hx hb dX8_advanceToken_96 rfl (lv_at hl 0 rfl) ?_
            refine tw_geti 16 (v := nI q) hx hb hts hown hKK hT (by decide) rfl ((tw_un (by decide)).trans (h16)) (hts _ q2514) dX8_advanceToken_97 ?_
            refine mm_rpu (va_runV (As := [.int (nI q)]) (rest := []) ⟨hx, hb, hml, hown, hts⟩ (t_isLetter l hT hX9 (by omega)) (cwV 1 hts (lw_V q2622 q2624 qs65 q164 q2625) rfl rfl rfl (by decide +kernel) ⟨Nat.le_of_ble_eq_true rfl, Nat.le_of_ble_eq_true rfl⟩) (mm_pV hKK (mm_rc hKK hT.2.1 mm_le.rf rfl)) rfl rfl hl.1 rfl (lv_room (Nat.le_of_ble_eq_true rfl)) dX8_advanceToken_100 ⟨Nat.le_of_ble_eq_true rfl, Nat.le_of_ble_eq_true rfl⟩) hS (mm_s0 hS) (fun L_100 hS => ?_)
            refine mm_ifeqB (tgt := 156) hx hb dX8_advanceToken_103 (by decide) (fun c_103 => ?_) (fun c_103 => ?_)
            · refine lv_aload_n hx hb dX8_advanceToken_156 rfl (lv_at hl 0 rfl) ?_
              refine lv_aload_n hx hb dX8_advanceToken_157 rfl (lv_at hl 0 rfl) ?_
              refine tw_geti 16 (v := nI q) hx hb hts hown hKK hT (by decide) rfl ((tw_un (by decide)).trans (h16)) (hts _ q2514) dX8_advanceToken_158 ?_
              refine mm_rpu (va_runV (As := [.int (nI q)]) (rest := []) ⟨hx, hb, hml, hown, hts⟩ (t_isDigit l hT hX9 (by omega)) (cwV 1 hts (lw_V q2628 q2630 qs66 q164 q2631) rfl rfl rfl (by decide +kernel) ⟨Nat.le_of_ble_eq_true rfl, Nat.le_of_ble_eq_true rfl⟩) (mm_pV hKK (mm_rc hKK hT.2.1 mm_le.rf rfl)) rfl rfl hl.1 rfl (lv_room (Nat.le_of_ble_eq_true rfl)) dX8_advanceToken_161 ⟨Nat.le_of_ble_eq_true rfl, Nat.le_of_ble_eq_true rfl⟩) hS (mm_s0 hS) (fun L_161 hS => ?_)
              refine mm_ifeqB (tgt := 265) hx hb dX8_advanceToken_164 (by decide) (fun c_164 => ?_) (fun c_164 => ?_)
              · have htk := tk_oth hS9 c_84 c_103 c_164
                refine lv_aload_n hx hb dX8_advanceToken_265 rfl (lv_at hl 0 rfl) ?_
                refine lv_aload_n hx hb dX8_advanceToken_266 rfl (lv_at hl 0 rfl) ?_
                refine tw_geta 12 hx hb hts hown hKK hT rfl rfl (hts _ q2510) dX8_advanceToken_267 ?_
                refine lv_aload_n hx hb dX8_advanceToken_270 rfl (lv_at hl 0 rfl) ?_
                refine tw_geti 16 (v := nI q) hx hb hts hown hKK hT (by decide) rfl ((tw_un (by decide)).trans (h16)) (hts _ q2514) dX8_advanceToken_271 ?_
                refine mm_bald (k := q) hx hb hKK (hT.2.2 12 rfl) mm_le.rf (by show _ < 600; omega) (by decide) dX8_advanceToken_274 ?_
                refine mm_top (y := bt q) (hX.2.2 q (by omega)) ?_
                refine lv_bipush (v := nI 59) hx hb dX8_advanceToken_275 (by decide) ?_
                refine lv_icmp_ne (tgt := 284) hx hb dX8_advanceToken_277 (by decide) (fun c_277 => ?_) (fun c_277 => ?_)
                · refine lv_iconst (v := nI 4) hx hb dX8_advanceToken_284 (by decide) ?_
                  refine mm_top (y := nI (if bt q = 59 then 3 else 4)) (by rw [if_neg (show ¬ bt q = 59 from c_277)]) ?_
                  refine tw_put 18 hx hb hts hown hKK hT hS (hMx) (by decide) rfl (by decide) ⟨rfl, rfl⟩ (hts _ q2516) dX8_advanceToken_285 (fun H_285 L_285 hT hz_285 hq_285 hS => ?_)
                  refine lv_aload_n hx hb dX8_advanceToken_288 rfl (lv_at hl 0 rfl) ?_
                  refine lv_dup hx hb dX8_advanceToken_289 rfl ?_
                  refine tw_geti 17 (v := nI q) hx hb hts hown hKK hT (by decide) rfl ((tw_un (by decide)).trans (tw_up _ _ _)) (hts _ q2515) dX8_advanceToken_290 ?_
                  refine lv_iconst (v := nI 1) hx hb dX8_advanceToken_293 (by decide) ?_
                  refine mm_iadd hx hb dX8_advanceToken_294 ?_
                  refine tw_put 17 hx hb hts hown hKK hT hS (hMx) (by decide) rfl (by decide) ⟨rfl, rfl⟩ (hts _ q2515) dX8_advanceToken_295 (fun H_295 L_295 hT hz_295 hq_295 hS => ?_)
                  exact mm_vret hx hb hr hlk hS (Nat.le_of_ble_eq_true rfl) (Nat.le_of_ble_eq_true rfl) (⟨rfl, _, hT, (hxi.tr ((exI.u (by decide)).tr ((exI.u (by decide)).tr (exI.u (by decide))))), hp9, (tw_un (by decide)).trans ((tw_un (by decide)).trans ((tw_un (by decide)).trans ((hxi 20 (by decide)).trans h20))), ((tw_un (by decide)).trans ((tw_un (by decide)).trans ((tw_un (by decide)).trans (h16)))).trans (by rw [hS9]), (tw_up _ _ _).trans (by rw [htk.1]), ((tw_un (by decide)).trans (tw_up _ _ _)).trans (by rw [htk.2]), fun z => by exfalso; rw [htk.2] at z; first | omega | (split at z <;> omega)⟩) dX8_advanceToken_298
                · refine lv_iconst (v := nI 3) hx hb dX8_advanceToken_280 (by decide) ?_
                  refine lv_goto (tgt := 285) hx hb dX8_advanceToken_281 (by decide) ?_
                  refine mm_top (y := nI (if bt q = 59 then 3 else 4)) (by rw [if_pos (show bt q = 59 from c_277)]) ?_
                  refine tw_put 18 hx hb hts hown hKK hT hS (hMx) (by decide) rfl (by decide) ⟨rfl, rfl⟩ (hts _ q2516) dX8_advanceToken_285 (fun H_285 L_285 hT hz_285 hq_285 hS => ?_)
                  refine lv_aload_n hx hb dX8_advanceToken_288 rfl (lv_at hl 0 rfl) ?_
                  refine lv_dup hx hb dX8_advanceToken_289 rfl ?_
                  refine tw_geti 17 (v := nI q) hx hb hts hown hKK hT (by decide) rfl ((tw_un (by decide)).trans (tw_up _ _ _)) (hts _ q2515) dX8_advanceToken_290 ?_
                  refine lv_iconst (v := nI 1) hx hb dX8_advanceToken_293 (by decide) ?_
                  refine mm_iadd hx hb dX8_advanceToken_294 ?_
                  refine tw_put 17 hx hb hts hown hKK hT hS (hMx) (by decide) rfl (by decide) ⟨rfl, rfl⟩ (hts _ q2515) dX8_advanceToken_295 (fun H_295 L_295 hT hz_295 hq_295 hS => ?_)
                  exact mm_vret hx hb hr hlk hS (Nat.le_of_ble_eq_true rfl) (Nat.le_of_ble_eq_true rfl) (⟨rfl, _, hT, (hxi.tr ((exI.u (by decide)).tr ((exI.u (by decide)).tr (exI.u (by decide))))), hp9, (tw_un (by decide)).trans ((tw_un (by decide)).trans ((tw_un (by decide)).trans ((hxi 20 (by decide)).trans h20))), ((tw_un (by decide)).trans ((tw_un (by decide)).trans ((tw_un (by decide)).trans (h16)))).trans (by rw [hS9]), (tw_up _ _ _).trans (by rw [htk.1]), ((tw_un (by decide)).trans (tw_up _ _ _)).trans (by rw [htk.2]), fun z => by exfalso; rw [htk.2] at z; first | omega | (split at z <;> omega)⟩) dX8_advanceToken_298
              · refine lv_aload_n hx hb dX8_advanceToken_167 rfl (lv_at hl 0 rfl) ?_
                refine lv_iconst (v := nI 0) hx hb dX8_advanceToken_168 (by decide) ?_
                refine tw_put 19 hx hb hts hown hKK hT hS (hMx) (by decide) rfl (by decide) ⟨rfl, rfl⟩ (hts _ q2517) dX8_advanceToken_169 (fun H_169 L_169 hT hz_169 hq_169 hS => ?_)
                have lp_172 : ∀ (fu : Nat) (e9 : Nat) (H2 : Heap) (I2 : Nat → Int32) (L : List Loc) (ls : Array Slot), n - e9 < fu → (q ≤ e9 ∧ e9 ≤ n) → (R_ (bD bt n) n e9 = R_ (bD bt n) n q) → lv_has ls 1 [(0, .ref x)] → (TW G x ad I2 F H2) → (exI [16, 17, 18, 19] I I2) → (I2 16 = nI q) → (I2 17 = nI e9) → (I2 19 = dv bt q (e9 - q)) → va_S (mm_A (tw_M x ad) H) H H2 L → W p l e (mm_rm 6 200 0 0) s m ([.ref x] : List Value).toArray below meth c H2 L 0 0 (MQ below (mm_Qc H (tw_M x ad) (mm_v (fun H2 => ∃ I2, TW G x ad I2 F H2 ∧ exI [16, 17, 18, 19] I I2 ∧ PS bt n (.ok p9) I2))) ([.ref x] : List Value).toArray s 0 0 (mm_A (tw_M x ad) H)) (F0 m 172 ls []) := by
                  intro fu; induction fu with
                  | zero => intro e9 H2 I2 L ls hfu; exact absurd hfu (Nat.not_lt_zero _)
                  | succ fu ih =>
                    intro e9 H2 I2 L ls hfu he9 hRe hl hT hxj h16 h17 h19 hS
                    have ih_172 := ih
                    have hX9 : TX_ bt n I2 F := ⟨(hxj 13 (by decide)).trans hX.1, hX.2⟩
                    refine lv_aload_n hx hb dX8_advanceToken_172 rfl (lv_at hl 0 rfl) ?_
                    refine lv_aload_n hx hb dX8_advanceToken_173 rfl (lv_at hl 0 rfl) ?_
                    refine tw_geti 17 (v := nI e9) hx hb hts hown hKK hT (by decide) rfl (h17) (hts _ q2515) dX8_advanceToken_174 ?_
                    refine mm_rpu (va_runV (As := [.int (nI e9)]) (rest := []) ⟨hx, hb, hml, hown, hts⟩ (t_isDigit l hT hX9 (by omega)) (cwV 1 hts (lw_V q2628 q2630 qs66 q164 q2631) rfl rfl rfl (by decide +kernel) ⟨Nat.le_of_ble_eq_true rfl, Nat.le_of_ble_eq_true rfl⟩) (mm_pV hKK (mm_rc hKK hT.2.1 mm_le.rf rfl)) rfl rfl hl.1 rfl (lv_room (Nat.le_of_ble_eq_true rfl)) dX8_advanceToken_177 ⟨Nat.le_of_ble_eq_true rfl, Nat.le_of_ble_eq_true rfl⟩) hS (mm_s0 hS) (fun L_177 hS => ?_)
                    refine mm_ifeqB (tgt := 240) hx hb dX8_advanceToken_180 (by decide) (fun c_180 => ?_) (fun c_180 => ?_)
                    · have htk := tk_num hS9 c_84 c_103 c_164 (hRe.symm.trans (R_f c_180))
                      refine lv_aload_n hx hb dX8_advanceToken_240 rfl (lv_at hl 0 rfl) ?_
                      refine lv_aload_n hx hb dX8_advanceToken_241 rfl (lv_at hl 0 rfl) ?_
                      refine tw_geti 17 (v := nI e9) hx hb hts hown hKK hT (by decide) rfl (h17) (hts _ q2515) dX8_advanceToken_242 ?_
                      refine lv_aload_n hx hb dX8_advanceToken_245 rfl (lv_at hl 0 rfl) ?_
                      refine tw_geti 16 (v := nI q) hx hb hts hown hKK hT (by decide) rfl (h16) (hts _ q2514) dX8_advanceToken_246 ?_
                      refine mm_isub (by omega) hx hb dX8_advanceToken_249 ?_
                      refine lv_iconst (v := nI 3) hx hb dX8_advanceToken_250 (by decide) ?_
                      refine mm_icmp_le (tgt := 258) (by omega) (by omega) hx hb dX8_advanceToken_251 (by decide) (fun c_251 => ?_) (fun c_251 => ?_)
                      · refine lv_iconst (v := nI 2) hx hb dX8_advanceToken_258 (by decide) ?_
                        refine mm_top (y := nI (if 3 < e9 - q then 4 else 2)) (by rw [if_neg (by omega)]) ?_
                        refine tw_put 18 hx hb hts hown hKK hT hS (hMx) (by decide) rfl (by decide) ⟨rfl, rfl⟩ (hts _ q2516) dX8_advanceToken_259 (fun H_259 L_259 hT hz_259 hq_259 hS => ?_)
                        refine lv_goto (tgt := 298) hx hb dX8_advanceToken_262 (by decide) ?_
                        exact mm_vret hx hb hr hlk hS (Nat.le_of_ble_eq_true rfl) (Nat.le_of_ble_eq_true rfl) (⟨rfl, _, hT, (hxj.tr (exI.u (by decide))), hp9, (tw_un (by decide)).trans ((hxj 20 (by decide)).trans h20), ((tw_un (by decide)).trans (h16)).trans (by rw [hS9]), ((tw_un (by decide)).trans (h17)).trans (by rw [htk.1]), (tw_up _ _ _).trans (by rw [htk.2.1]), fun z => ((tw_un (by decide)).trans (h19)).trans (by rw [htk.2.2])⟩) dX8_advanceToken_298
                      · refine lv_iconst (v := nI 4) hx hb dX8_advanceToken_254 (by decide) ?_
                        refine lv_goto (tgt := 259) hx hb dX8_advanceToken_255 (by decide) ?_
                        refine mm_top (y := nI (if 3 < e9 - q then 4 else 2)) (by rw [if_pos (by omega)]) ?_
                        refine tw_put 18 hx hb hts hown hKK hT hS (hMx) (by decide) rfl (by decide) ⟨rfl, rfl⟩ (hts _ q2516) dX8_advanceToken_259 (fun H_259 L_259 hT hz_259 hq_259 hS => ?_)
                        refine lv_goto (tgt := 298) hx hb dX8_advanceToken_262 (by decide) ?_
                        exact mm_vret hx hb hr hlk hS (Nat.le_of_ble_eq_true rfl) (Nat.le_of_ble_eq_true rfl) (⟨rfl, _, hT, (hxj.tr (exI.u (by decide))), hp9, (tw_un (by decide)).trans ((hxj 20 (by decide)).trans h20), ((tw_un (by decide)).trans (h16)).trans (by rw [hS9]), ((tw_un (by decide)).trans (h17)).trans (by rw [htk.1]), (tw_up _ _ _).trans (by rw [htk.2.1]), fun z => ((tw_un (by decide)).trans (h19)).trans (by rw [htk.2.2])⟩) dX8_advanceToken_298
                    · have hlt9 := bD_lt c_180
                      refine lv_aload_n hx hb dX8_advanceToken_183 rfl (lv_at hl 0 rfl) ?_
                      refine lv_aload_n hx hb dX8_advanceToken_184 rfl (lv_at hl 0 rfl) ?_
                      refine tw_geti 17 (v := nI e9) hx hb hts hown hKK hT (by decide) rfl (h17) (hts _ q2515) dX8_advanceToken_185 ?_
                      refine lv_aload_n hx hb dX8_advanceToken_188 rfl (lv_at hl 0 rfl) ?_
                      refine tw_geti 16 (v := nI q) hx hb hts hown hKK hT (by decide) rfl (h16) (hts _ q2514) dX8_advanceToken_189 ?_
                      refine mm_isub (by omega) hx hb dX8_advanceToken_192 ?_
                      refine lv_iconst (v := nI 3) hx hb dX8_advanceToken_193 (by decide) ?_
                      refine mm_icmp_ge (tgt := 220) (by omega) (by omega) hx hb dX8_advanceToken_194 (by decide) (fun c_194 => ?_) (fun c_194 => ?_)
                      · refine lv_aload_n hx hb dX8_advanceToken_220 rfl (lv_at hl 0 rfl) ?_
                        refine tw_geti 19 (v := dv bt q (e9 - q)) hx hb hts hown hKK hT (by decide) rfl (h19) (hts _ q2517) dX8_advanceToken_221 ?_
                        refine mm_top (y := dv bt q (e9 + 1 - q)) (dv_s2 he9.1 (by omega)) ?_
                        refine tw_put 19 hx hb hts hown hKK hT hS (hMx) (by decide) rfl (by decide) ⟨rfl, rfl⟩ (hts _ q2517) dX8_advanceToken_224 (fun H_224 L_224 hT hz_224 hq_224 hS => ?_)
                        refine lv_aload_n hx hb dX8_advanceToken_227 rfl (lv_at hl 0 rfl) ?_
                        refine lv_dup hx hb dX8_advanceToken_228 rfl ?_
                        refine tw_geti 17 (v := nI e9) hx hb hts hown hKK hT (by decide) rfl ((tw_un (by decide)).trans (h17)) (hts _ q2515) dX8_advanceToken_229 ?_
                        refine lv_iconst (v := nI 1) hx hb dX8_advanceToken_232 (by decide) ?_
                        refine mm_iadd hx hb dX8_advanceToken_233 ?_
                        refine tw_put 17 hx hb hts hown hKK hT hS (hMx) (by decide) rfl (by decide) ⟨rfl, rfl⟩ (hts _ q2515) dX8_advanceToken_234 (fun H_234 L_234 hT hz_234 hq_234 hS => ?_)
                        refine lv_goto (tgt := 172) hx hb dX8_advanceToken_237 (by decide) ?_
                        exact ih_172 (e9 + 1) H_234 ((upd (upd I2 19 (dv bt q (e9 + 1 - q))) 17 (nI (e9 + 1)))) _ _ (by omega) (by have := bD_lt c_180; omega) (by rw [← hRe]; exact (R_t (bD_lt c_180) c_180).symm) (lv_sub hl [0] rfl) hT (hxj.tr ((exI.u (by decide)).tr (exI.u (by decide)))) ((tw_un (by decide)).trans ((tw_un (by decide)).trans (h16))) (tw_up _ _ _) ((tw_un (by decide)).trans (tw_up _ _ _)) hS
                      · refine lv_bipush (v := nI 10) hx hb dX8_advanceToken_197 (by decide) ?_
                        refine lv_aload_n hx hb dX8_advanceToken_199 rfl (lv_at hl 0 rfl) ?_
                        refine tw_geti 19 (v := dv bt q (e9 - q)) hx hb hts hown hKK hT (by decide) rfl (h19) (hts _ q2517) dX8_advanceToken_200 ?_
                        refine lv_imul hx hb dX8_advanceToken_203 ?_
                        refine lv_aload_n hx hb dX8_advanceToken_204 rfl (lv_at hl 0 rfl) ?_
                        refine tw_geta 12 hx hb hts hown hKK hT rfl rfl (hts _ q2510) dX8_advanceToken_205 ?_
                        refine lv_aload_n hx hb dX8_advanceToken_208 rfl (lv_at hl 0 rfl) ?_
                        refine tw_geti 17 (v := nI e9) hx hb hts hown hKK hT (by decide) rfl (h17) (hts _ q2515) dX8_advanceToken_209 ?_
                        refine mm_bald (k := e9) hx hb hKK (hT.2.2 12 rfl) mm_le.rf (by show _ < 600; omega) (by decide) dX8_advanceToken_212 ?_
                        refine mm_top (y := bt e9) (hX.2.2 e9 (bD_lt c_180)) ?_
                        refine lv_iadd hx hb dX8_advanceToken_213 ?_
                        refine lv_bipush (v := nI 48) hx hb dX8_advanceToken_214 (by decide) ?_
                        refine lv_isub hx hb dX8_advanceToken_216 ?_
                        refine mm_top (y := dv bt q (e9 + 1 - q)) (dv_s1 he9.1 (by omega)) ?_
                        refine lv_goto (tgt := 224) hx hb dX8_advanceToken_217 (by decide) ?_
                        refine tw_put 19 hx hb hts hown hKK hT hS (hMx) (by decide) rfl (by decide) ⟨rfl, rfl⟩ (hts _ q2517) dX8_advanceToken_224 (fun H_224 L_224 hT hz_224 hq_224 hS => ?_)
                        refine lv_aload_n hx hb dX8_advanceToken_227 rfl (lv_at hl 0 rfl) ?_
                        refine lv_dup hx hb dX8_advanceToken_228 rfl ?_
                        refine tw_geti 17 (v := nI e9) hx hb hts hown hKK hT (by decide) rfl ((tw_un (by decide)).trans (h17)) (hts _ q2515) dX8_advanceToken_229 ?_
                        refine lv_iconst (v := nI 1) hx hb dX8_advanceToken_232 (by decide) ?_
                        refine mm_iadd hx hb dX8_advanceToken_233 ?_
                        refine tw_put 17 hx hb hts hown hKK hT hS (hMx) (by decide) rfl (by decide) ⟨rfl, rfl⟩ (hts _ q2515) dX8_advanceToken_234 (fun H_234 L_234 hT hz_234 hq_234 hS => ?_)
                        refine lv_goto (tgt := 172) hx hb dX8_advanceToken_237 (by decide) ?_
                        exact ih_172 (e9 + 1) H_234 ((upd (upd I2 19 (dv bt q (e9 + 1 - q))) 17 (nI (e9 + 1)))) _ _ (by omega) (by have := bD_lt c_180; omega) (by rw [← hRe]; exact (R_t (bD_lt c_180) c_180).symm) (lv_sub hl [0] rfl) hT (hxj.tr ((exI.u (by decide)).tr (exI.u (by decide)))) ((tw_un (by decide)).trans ((tw_un (by decide)).trans (h16))) (tw_up _ _ _) ((tw_un (by decide)).trans (tw_up _ _ _)) hS
                exact lp_172 _ q H_169 ((upd (upd I1 17 (nI q)) 19 (nI 0))) _ _ (Nat.lt_succ_self _) (by omega) (rfl) (lv_sub hl [0] rfl) hT (hxi.tr ((exI.u (by decide)).tr (exI.u (by decide)))) ((tw_un (by decide)).trans ((tw_un (by decide)).trans (h16))) ((tw_un (by decide)).trans (tw_up _ _ _)) (by rw [Nat.sub_self]; exact tw_up _ _ _) hS
            · have lp_106 : ∀ (fu : Nat) (e9 : Nat) (H2 : Heap) (I2 : Nat → Int32) (L : List Loc) (ls : Array Slot), n - e9 < fu → (q ≤ e9 ∧ e9 ≤ n) → (R_ (bL bt n) n e9 = R_ (bL bt n) n q) → lv_has ls 1 [(0, .ref x)] → (TW G x ad I2 F H2) → (exI [16, 17, 18, 19] I I2) → (I2 16 = nI q) → (I2 17 = nI e9) → va_S (mm_A (tw_M x ad) H) H H2 L → W p l e (mm_rm 6 200 0 0) s m ([.ref x] : List Value).toArray below meth c H2 L 0 0 (MQ below (mm_Qc H (tw_M x ad) (mm_v (fun H2 => ∃ I2, TW G x ad I2 F H2 ∧ exI [16, 17, 18, 19] I I2 ∧ PS bt n (.ok p9) I2))) ([.ref x] : List Value).toArray s 0 0 (mm_A (tw_M x ad) H)) (F0 m 106 ls []) := by
                intro fu; induction fu with
                | zero => intro e9 H2 I2 L ls hfu; exact absurd hfu (Nat.not_lt_zero _)
                | succ fu ih =>
                  intro e9 H2 I2 L ls hfu he9 hRe hl hT hxj h16 h17 hS
                  have ih_106 := ih
                  have hX9 : TX_ bt n I2 F := ⟨(hxj 13 (by decide)).trans hX.1, hX.2⟩
                  refine lv_aload_n hx hb dX8_advanceToken_106 rfl (lv_at hl 0 rfl) ?_
                  refine lv_aload_n hx hb dX8_advanceToken_107 rfl (lv_at hl 0 rfl) ?_
                  refine tw_geti 17 (v := nI e9) hx hb hts hown hKK hT (by decide) rfl (h17) (hts _ q2515) dX8_advanceToken_108 ?_
                  refine mm_rpu (va_runV (As := [.int (nI e9)]) (rest := []) ⟨hx, hb, hml, hown, hts⟩ (t_isLetter l hT hX9 (by omega)) (cwV 1 hts (lw_V q2622 q2624 qs65 q164 q2625) rfl rfl rfl (by decide +kernel) ⟨Nat.le_of_ble_eq_true rfl, Nat.le_of_ble_eq_true rfl⟩) (mm_pV hKK (mm_rc hKK hT.2.1 mm_le.rf rfl)) rfl rfl hl.1 rfl (lv_room (Nat.le_of_ble_eq_true rfl)) dX8_advanceToken_111 ⟨Nat.le_of_ble_eq_true rfl, Nat.le_of_ble_eq_true rfl⟩) hS (mm_s0 hS) (fun L_111 hS => ?_)
                  refine mm_ifeqB (tgt := 130) hx hb dX8_advanceToken_114 (by decide) (fun c_114 => ?_) (fun c_114 => ?_)
                  · have htk := tk_word hS9 c_84 c_103 (hRe.symm.trans (R_f c_114))
                    refine lv_aload_n hx hb dX8_advanceToken_130 rfl (lv_at hl 0 rfl) ?_
                    refine lv_aload_n hx hb dX8_advanceToken_131 rfl (lv_at hl 0 rfl) ?_
                    refine tw_geti 17 (v := nI e9) hx hb hts hown hKK hT (by decide) rfl (h17) (hts _ q2515) dX8_advanceToken_132 ?_
                    refine lv_aload_n hx hb dX8_advanceToken_135 rfl (lv_at hl 0 rfl) ?_
                    refine tw_geti 16 (v := nI q) hx hb hts hown hKK hT (by decide) rfl (h16) (hts _ q2514) dX8_advanceToken_136 ?_
                    refine mm_isub (by omega) hx hb dX8_advanceToken_139 ?_
                    refine lv_bipush (v := nI 8) hx hb dX8_advanceToken_140 (by decide) ?_
                    refine mm_icmp_le (tgt := 149) (by omega) (by omega) hx hb dX8_advanceToken_142 (by decide) (fun c_142 => ?_) (fun c_142 => ?_)
                    · refine lv_iconst (v := nI 1) hx hb dX8_advanceToken_149 (by decide) ?_
                      refine mm_top (y := nI (if 8 < e9 - q then 4 else 1)) (by rw [if_neg (by omega)]) ?_
                      refine tw_put 18 hx hb hts hown hKK hT hS (hMx) (by decide) rfl (by decide) ⟨rfl, rfl⟩ (hts _ q2516) dX8_advanceToken_150 (fun H_150 L_150 hT hz_150 hq_150 hS => ?_)
                      refine lv_goto (tgt := 298) hx hb dX8_advanceToken_153 (by decide) ?_
                      exact mm_vret hx hb hr hlk hS (Nat.le_of_ble_eq_true rfl) (Nat.le_of_ble_eq_true rfl) (⟨rfl, _, hT, (hxj.tr (exI.u (by decide))), hp9, (tw_un (by decide)).trans ((hxj 20 (by decide)).trans h20), ((tw_un (by decide)).trans (h16)).trans (by rw [hS9]), ((tw_un (by decide)).trans (h17)).trans (by rw [htk.1]), (tw_up _ _ _).trans (by rw [htk.2]), fun z => by exfalso; rw [htk.2] at z; first | omega | (split at z <;> omega)⟩) dX8_advanceToken_298
                    · refine lv_iconst (v := nI 4) hx hb dX8_advanceToken_145 (by decide) ?_
                      refine lv_goto (tgt := 150) hx hb dX8_advanceToken_146 (by decide) ?_
                      refine mm_top (y := nI (if 8 < e9 - q then 4 else 1)) (by rw [if_pos (by omega)]) ?_
                      refine tw_put 18 hx hb hts hown hKK hT hS (hMx) (by decide) rfl (by decide) ⟨rfl, rfl⟩ (hts _ q2516) dX8_advanceToken_150 (fun H_150 L_150 hT hz_150 hq_150 hS => ?_)
                      refine lv_goto (tgt := 298) hx hb dX8_advanceToken_153 (by decide) ?_
                      exact mm_vret hx hb hr hlk hS (Nat.le_of_ble_eq_true rfl) (Nat.le_of_ble_eq_true rfl) (⟨rfl, _, hT, (hxj.tr (exI.u (by decide))), hp9, (tw_un (by decide)).trans ((hxj 20 (by decide)).trans h20), ((tw_un (by decide)).trans (h16)).trans (by rw [hS9]), ((tw_un (by decide)).trans (h17)).trans (by rw [htk.1]), (tw_up _ _ _).trans (by rw [htk.2]), fun z => by exfalso; rw [htk.2] at z; first | omega | (split at z <;> omega)⟩) dX8_advanceToken_298
                  · have hlt9 := bL_lt c_114
                    refine lv_aload_n hx hb dX8_advanceToken_117 rfl (lv_at hl 0 rfl) ?_
                    refine lv_dup hx hb dX8_advanceToken_118 rfl ?_
                    refine tw_geti 17 (v := nI e9) hx hb hts hown hKK hT (by decide) rfl (h17) (hts _ q2515) dX8_advanceToken_119 ?_
                    refine lv_iconst (v := nI 1) hx hb dX8_advanceToken_122 (by decide) ?_
                    refine mm_iadd hx hb dX8_advanceToken_123 ?_
                    refine tw_put 17 hx hb hts hown hKK hT hS (hMx) (by decide) rfl (by decide) ⟨rfl, rfl⟩ (hts _ q2515) dX8_advanceToken_124 (fun H_124 L_124 hT hz_124 hq_124 hS => ?_)
                    refine lv_goto (tgt := 106) hx hb dX8_advanceToken_127 (by decide) ?_
                    exact ih_106 (e9 + 1) H_124 ((upd I2 17 (nI (e9 + 1)))) _ _ (by omega) (by have := bL_lt c_114; omega) (by rw [← hRe]; exact (R_t (bL_lt c_114) c_114).symm) (lv_sub hl [0] rfl) hT (hxj.tr (exI.u (by decide))) ((tw_un (by decide)).trans (h16)) (tw_up _ _ _) hS
              exact lp_106 _ q H_73 ((upd I1 17 (nI q))) _ _ (Nat.lt_succ_self _) (by omega) (rfl) (lv_sub hl [0] rfl) hT (hxi.tr (exI.u (by decide))) ((tw_un (by decide)).trans (h16)) (tw_up _ _ _) hS
          · refine lv_aload_n hx hb dX8_advanceToken_87 rfl (lv_at hl 0 rfl) ?_
            refine lv_iconst (v := nI 0) hx hb dX8_advanceToken_88 (by decide) ?_
            refine tw_put 18 hx hb hts hown hKK hT hS (hMx) (by decide) rfl (by decide) ⟨rfl, rfl⟩ (hts _ q2516) dX8_advanceToken_89 (fun H_89 L_89 hT hz_89 hq_89 hS => ?_)
            have htk := tk_end hS9 c_84
            refine lv_goto (tgt := 298) hx hb dX8_advanceToken_92 (by decide) ?_
            exact mm_vret hx hb hr hlk hS (Nat.le_of_ble_eq_true rfl) (Nat.le_of_ble_eq_true rfl) (⟨rfl, _, hT, (hxi.tr ((exI.u (by decide)).tr (exI.u (by decide)))), hp9, (tw_un (by decide)).trans ((tw_un (by decide)).trans ((hxi 20 (by decide)).trans h20)), ((tw_un (by decide)).trans ((tw_un (by decide)).trans (h16))).trans (by rw [hS9]), ((tw_un (by decide)).trans (tw_up _ _ _)).trans (by rw [htk.1]), (tw_up _ _ _).trans (by rw [htk.2]), fun z => by exfalso; rw [htk.2] at z; first | omega | (split at z <;> omega)⟩) dX8_advanceToken_298
        · refine lv_aload_n hx hb dX8_advanceToken_27 rfl (lv_at hl 0 rfl) ?_
          refine tw_geta 12 hx hb hts hown hKK hT rfl rfl (hts _ q2510) dX8_advanceToken_28 ?_
          refine lv_aload_n hx hb dX8_advanceToken_31 rfl (lv_at hl 0 rfl) ?_
          refine tw_geti 16 (v := nI q) hx hb hts hown hKK hT (by decide) rfl (h16) (hts _ q2514) dX8_advanceToken_32 ?_
          refine mm_bald (k := q) hx hb hKK (hT.2.2 12 rfl) mm_le.rf (by show _ < 600; omega) (by decide) dX8_advanceToken_35 ?_
          refine mm_top (y := bt q) (hX.2.2 q (by omega)) ?_
          refine lv_bipush (v := nI 32) hx hb dX8_advanceToken_36 (by decide) ?_
          refine lv_icmp_eq (tgt := 55) hx hb dX8_advanceToken_38 (by decide) (fun c_38 => ?_) (fun c_38 => ?_)
          · refine lv_aload_n hx hb dX8_advanceToken_55 rfl (lv_at hl 0 rfl) ?_
            refine lv_dup hx hb dX8_advanceToken_56 rfl ?_
            refine tw_geti 16 (v := nI q) hx hb hts hown hKK hT (by decide) rfl (h16) (hts _ q2514) dX8_advanceToken_57 ?_
            refine lv_iconst (v := nI 1) hx hb dX8_advanceToken_60 (by decide) ?_
            refine mm_iadd hx hb dX8_advanceToken_61 ?_
            refine tw_put 16 hx hb hts hown hKK hT hS (hMx) (by decide) rfl (by decide) ⟨rfl, rfl⟩ (hts _ q2514) dX8_advanceToken_62 (fun H_62 L_62 hT hz_62 hq_62 hS => ?_)
            refine lv_goto (tgt := 16) hx hb dX8_advanceToken_65 (by decide) ?_
            exact ih_16 (q + 1) H_62 ((upd I1 16 (nI (q + 1)))) _ _ (by omega) (by omega) (by rw [← hR9]; exact (R_t (by omega) (bS_t (by omega) (.inl c_38))).symm) (lv_sub hl [0] rfl) hT (hxi.tr (exI.u (by decide))) (tw_up _ _ _) hS
          · refine lv_aload_n hx hb dX8_advanceToken_41 rfl (lv_at hl 0 rfl) ?_
            refine tw_geta 12 hx hb hts hown hKK hT rfl rfl (hts _ q2510) dX8_advanceToken_42 ?_
            refine lv_aload_n hx hb dX8_advanceToken_45 rfl (lv_at hl 0 rfl) ?_
            refine tw_geti 16 (v := nI q) hx hb hts hown hKK hT (by decide) rfl (h16) (hts _ q2514) dX8_advanceToken_46 ?_
            refine mm_bald (k := q) hx hb hKK (hT.2.2 12 rfl) mm_le.rf (by show _ < 600; omega) (by decide) dX8_advanceToken_49 ?_
            refine mm_top (y := bt q) (hX.2.2 q (by omega)) ?_
            refine lv_bipush (v := nI 10) hx hb dX8_advanceToken_50 (by decide) ?_
            refine lv_icmp_ne (tgt := 68) hx hb dX8_advanceToken_52 (by decide) (fun c_52 => ?_) (fun c_52 => ?_)
            · have hS9 : tkS bt n p9 = q := by rw [← hR9]; exact R_f (bS_f (.inr ⟨c_38, c_52⟩))
              refine lv_aload_n hx hb dX8_advanceToken_68 rfl (lv_at hl 0 rfl) ?_
              refine lv_aload_n hx hb dX8_advanceToken_69 rfl (lv_at hl 0 rfl) ?_
              refine tw_geti 16 (v := nI q) hx hb hts hown hKK hT (by decide) rfl (h16) (hts _ q2514) dX8_advanceToken_70 ?_
              refine tw_put 17 hx hb hts hown hKK hT hS (hMx) (by decide) rfl (by decide) ⟨rfl, rfl⟩ (hts _ q2515) dX8_advanceToken_73 (fun H_73 L_73 hT hz_73 hq_73 hS => ?_)
              refine lv_aload_n hx hb dX8_advanceToken_76 rfl (lv_at hl 0 rfl) ?_
              refine tw_geti 16 (v := nI q) hx hb hts hown hKK hT (by decide) rfl ((tw_un (by decide)).trans (h16)) (hts _ q2514) dX8_advanceToken_77 ?_
              refine lv_aload_n hx hb dX8_advanceToken_80 rfl (lv_at hl 0 rfl) ?_
              refine tw_geti 13 (v := nI n) hx hb hts hown hKK hT (by decide) rfl ((tw_un (by decide)).trans ((hxi 13 (by decide)).trans hX.1)) (hts _ q2511) dX8_advanceToken_81 ?_
              refine mm_icmp_ne (tgt := 95) (by omega) (by omega) hx hb dX8_advanceToken_84 (by decide) (fun c_84 => ?_) (fun c_84 => ?_)
              · have hX9 : TX_ bt n (upd I1 17 (nI q)) F := ⟨(tw_un (by decide)).trans ((hxi 13 (by decide)).trans hX.1), hX.2⟩
                refine lv_aload_n hx hb dX8_advanceToken_95 rfl (lv_at hl 0 rfl) ?_
                refine lv_aload_n hx hb dX8_advanceToken_96 rfl (lv_at hl 0 rfl) ?_
                refine tw_geti 16 (v := nI q) hx hb hts hown hKK hT (by decide) rfl ((tw_un (by decide)).trans (h16)) (hts _ q2514) dX8_advanceToken_97 ?_
                refine mm_rpu (va_runV (As := [.int (nI q)]) (rest := []) ⟨hx, hb, hml, hown, hts⟩ (t_isLetter l hT hX9 (by omega)) (cwV 1 hts (lw_V q2622 q2624 qs65 q164 q2625) rfl rfl rfl (by decide +kernel) ⟨Nat.le_of_ble_eq_true rfl, Nat.le_of_ble_eq_true rfl⟩) (mm_pV hKK (mm_rc hKK hT.2.1 mm_le.rf rfl)) rfl rfl hl.1 rfl (lv_room (Nat.le_of_ble_eq_true rfl)) dX8_advanceToken_100 ⟨Nat.le_of_ble_eq_true rfl, Nat.le_of_ble_eq_true rfl⟩) hS (mm_s0 hS) (fun L_100 hS => ?_)
                refine mm_ifeqB (tgt := 156) hx hb dX8_advanceToken_103 (by decide) (fun c_103 => ?_) (fun c_103 => ?_)
                · refine lv_aload_n hx hb dX8_advanceToken_156 rfl (lv_at hl 0 rfl) ?_
                  refine lv_aload_n hx hb dX8_advanceToken_157 rfl (lv_at hl 0 rfl) ?_
                  refine tw_geti 16 (v := nI q) hx hb hts hown hKK hT (by decide) rfl ((tw_un (by decide)).trans (h16)) (hts _ q2514) dX8_advanceToken_158 ?_
                  refine mm_rpu (va_runV (As := [.int (nI q)]) (rest := []) ⟨hx, hb, hml, hown, hts⟩ (t_isDigit l hT hX9 (by omega)) (cwV 1 hts (lw_V q2628 q2630 qs66 q164 q2631) rfl rfl rfl (by decide +kernel) ⟨Nat.le_of_ble_eq_true rfl, Nat.le_of_ble_eq_true rfl⟩) (mm_pV hKK (mm_rc hKK hT.2.1 mm_le.rf rfl)) rfl rfl hl.1 rfl (lv_room (Nat.le_of_ble_eq_true rfl)) dX8_advanceToken_161 ⟨Nat.le_of_ble_eq_true rfl, Nat.le_of_ble_eq_true rfl⟩) hS (mm_s0 hS) (fun L_161 hS => ?_)
                  refine mm_ifeqB (tgt := 265) hx hb dX8_advanceToken_164 (by decide) (fun c_164 => ?_) (fun c_164 => ?_)
                  · have htk := tk_oth hS9 c_84 c_103 c_164
                    refine lv_aload_n hx hb dX8_advanceToken_265 rfl (lv_at hl 0 rfl) ?_
                    refine lv_aload_n hx hb dX8_advanceToken_266 rfl (lv_at hl 0 rfl) ?_
                    refine tw_geta 12 hx hb hts hown hKK hT rfl rfl (hts _ q2510) dX8_advanceToken_267 ?_
                    refine lv_aload_n hx hb dX8_advanceToken_270 rfl (lv_at hl 0 rfl) ?_
                    refine tw_geti 16 (v := nI q) hx hb hts hown hKK hT (by decide) rfl ((tw_un (by decide)).trans (h16)) (hts _ q2514) dX8_advanceToken_271 ?_
                    refine mm_bald (k := q) hx hb hKK (hT.2.2 12 rfl) mm_le.rf (by show _ < 600; omega) (by decide) dX8_advanceToken_274 ?_
                    refine mm_top (y := bt q) (hX.2.2 q (by omega)) ?_
                    refine lv_bipush (v := nI 59) hx hb dX8_advanceToken_275 (by decide) ?_
                    refine lv_icmp_ne (tgt := 284) hx hb dX8_advanceToken_277 (by decide) (fun c_277 => ?_) (fun c_277 => ?_)
                    · refine lv_iconst (v := nI 4) hx hb dX8_advanceToken_284 (by decide) ?_
                      refine mm_top (y := nI (if bt q = 59 then 3 else 4)) (by rw [if_neg (show ¬ bt q = 59 from c_277)]) ?_
                      refine tw_put 18 hx hb hts hown hKK hT hS (hMx) (by decide) rfl (by decide) ⟨rfl, rfl⟩ (hts _ q2516) dX8_advanceToken_285 (fun H_285 L_285 hT hz_285 hq_285 hS => ?_)
                      refine lv_aload_n hx hb dX8_advanceToken_288 rfl (lv_at hl 0 rfl) ?_
                      refine lv_dup hx hb dX8_advanceToken_289 rfl ?_
                      refine tw_geti 17 (v := nI q) hx hb hts hown hKK hT (by decide) rfl ((tw_un (by decide)).trans (tw_up _ _ _)) (hts _ q2515) dX8_advanceToken_290 ?_
                      refine lv_iconst (v := nI 1) hx hb dX8_advanceToken_293 (by decide) ?_
                      refine mm_iadd hx hb dX8_advanceToken_294 ?_
                      refine tw_put 17 hx hb hts hown hKK hT hS (hMx) (by decide) rfl (by decide) ⟨rfl, rfl⟩ (hts _ q2515) dX8_advanceToken_295 (fun H_295 L_295 hT hz_295 hq_295 hS => ?_)
                      exact mm_vret hx hb hr hlk hS (Nat.le_of_ble_eq_true rfl) (Nat.le_of_ble_eq_true rfl) (⟨rfl, _, hT, (hxi.tr ((exI.u (by decide)).tr ((exI.u (by decide)).tr (exI.u (by decide))))), hp9, (tw_un (by decide)).trans ((tw_un (by decide)).trans ((tw_un (by decide)).trans ((hxi 20 (by decide)).trans h20))), ((tw_un (by decide)).trans ((tw_un (by decide)).trans ((tw_un (by decide)).trans (h16)))).trans (by rw [hS9]), (tw_up _ _ _).trans (by rw [htk.1]), ((tw_un (by decide)).trans (tw_up _ _ _)).trans (by rw [htk.2]), fun z => by exfalso; rw [htk.2] at z; first | omega | (split at z <;> omega)⟩) dX8_advanceToken_298
                    · refine lv_iconst (v := nI 3) hx hb dX8_advanceToken_280 (by decide) ?_
                      refine lv_goto (tgt := 285) hx hb dX8_advanceToken_281 (by decide) ?_
                      refine mm_top (y := nI (if bt q = 59 then 3 else 4)) (by rw [if_pos (show bt q = 59 from c_277)]) ?_
                      refine tw_put 18 hx hb hts hown hKK hT hS (hMx) (by decide) rfl (by decide) ⟨rfl, rfl⟩ (hts _ q2516) dX8_advanceToken_285 (fun H_285 L_285 hT hz_285 hq_285 hS => ?_)
                      refine lv_aload_n hx hb dX8_advanceToken_288 rfl (lv_at hl 0 rfl) ?_
                      refine lv_dup hx hb dX8_advanceToken_289 rfl ?_
                      refine tw_geti 17 (v := nI q) hx hb hts hown hKK hT (by decide) rfl ((tw_un (by decide)).trans (tw_up _ _ _)) (hts _ q2515) dX8_advanceToken_290 ?_
                      refine lv_iconst (v := nI 1) hx hb dX8_advanceToken_293 (by decide) ?_
                      refine mm_iadd hx hb dX8_advanceToken_294 ?_
                      refine tw_put 17 hx hb hts hown hKK hT hS (hMx) (by decide) rfl (by decide) ⟨rfl, rfl⟩ (hts _ q2515) dX8_advanceToken_295 (fun H_295 L_295 hT hz_295 hq_295 hS => ?_)
                      exact mm_vret hx hb hr hlk hS (Nat.le_of_ble_eq_true rfl) (Nat.le_of_ble_eq_true rfl) (⟨rfl, _, hT, (hxi.tr ((exI.u (by decide)).tr ((exI.u (by decide)).tr (exI.u (by decide))))), hp9, (tw_un (by decide)).trans ((tw_un (by decide)).trans ((tw_un (by decide)).trans ((hxi 20 (by decide)).trans h20))), ((tw_un (by decide)).trans ((tw_un (by decide)).trans ((tw_un (by decide)).trans (h16)))).trans (by rw [hS9]), (tw_up _ _ _).trans (by rw [htk.1]), ((tw_un (by decide)).trans (tw_up _ _ _)).trans (by rw [htk.2]), fun z => by exfalso; rw [htk.2] at z; first | omega | (split at z <;> omega)⟩) dX8_advanceToken_298
                  · refine lv_aload_n hx hb dX8_advanceToken_167 rfl (lv_at hl 0 rfl) ?_
                    refine lv_iconst (v := nI 0) hx hb dX8_advanceToken_168 (by decide) ?_
                    refine tw_put 19 hx hb hts hown hKK hT hS (hMx) (by decide) rfl (by decide) ⟨rfl, rfl⟩ (hts _ q2517) dX8_advanceToken_169 (fun H_169 L_169 hT hz_169 hq_169 hS => ?_)
                    have lp_172 : ∀ (fu : Nat) (e9 : Nat) (H2 : Heap) (I2 : Nat → Int32) (L : List Loc) (ls : Array Slot), n - e9 < fu → (q ≤ e9 ∧ e9 ≤ n) → (R_ (bD bt n) n e9 = R_ (bD bt n) n q) → lv_has ls 1 [(0, .ref x)] → (TW G x ad I2 F H2) → (exI [16, 17, 18, 19] I I2) → (I2 16 = nI q) → (I2 17 = nI e9) → (I2 19 = dv bt q (e9 - q)) → va_S (mm_A (tw_M x ad) H) H H2 L → W p l e (mm_rm 6 200 0 0) s m ([.ref x] : List Value).toArray below meth c H2 L 0 0 (MQ below (mm_Qc H (tw_M x ad) (mm_v (fun H2 => ∃ I2, TW G x ad I2 F H2 ∧ exI [16, 17, 18, 19] I I2 ∧ PS bt n (.ok p9) I2))) ([.ref x] : List Value).toArray s 0 0 (mm_A (tw_M x ad) H)) (F0 m 172 ls []) := by
                      intro fu; induction fu with
                      | zero => intro e9 H2 I2 L ls hfu; exact absurd hfu (Nat.not_lt_zero _)
                      | succ fu ih =>
                        intro e9 H2 I2 L ls hfu he9 hRe hl hT hxj h16 h17 h19 hS
                        have ih_172 := ih
                        have hX9 : TX_ bt n I2 F := ⟨(hxj 13 (by decide)).trans hX.1, hX.2⟩
                        refine lv_aload_n hx hb dX8_advanceToken_172 rfl (lv_at hl 0 rfl) ?_
                        refine lv_aload_n hx hb dX8_advanceToken_173 rfl (lv_at hl 0 rfl) ?_
                        refine tw_geti 17 (v := nI e9) hx hb hts hown hKK hT (by decide) rfl (h17) (hts _ q2515) dX8_advanceToken_174 ?_
                        refine mm_rpu (va_runV (As := [.int (nI e9)]) (rest := []) ⟨hx, hb, hml, hown, hts⟩ (t_isDigit l hT hX9 (by omega)) (cwV 1 hts (lw_V q2628 q2630 qs66 q164 q2631) rfl rfl rfl (by decide +kernel) ⟨Nat.le_of_ble_eq_true rfl, Nat.le_of_ble_eq_true rfl⟩) (mm_pV hKK (mm_rc hKK hT.2.1 mm_le.rf rfl)) rfl rfl hl.1 rfl (lv_room (Nat.le_of_ble_eq_true rfl)) dX8_advanceToken_177 ⟨Nat.le_of_ble_eq_true rfl, Nat.le_of_ble_eq_true rfl⟩) hS (mm_s0 hS) (fun L_177 hS => ?_)
                        refine mm_ifeqB (tgt := 240) hx hb dX8_advanceToken_180 (by decide) (fun c_180 => ?_) (fun c_180 => ?_)
                        · have htk := tk_num hS9 c_84 c_103 c_164 (hRe.symm.trans (R_f c_180))
                          refine lv_aload_n hx hb dX8_advanceToken_240 rfl (lv_at hl 0 rfl) ?_
                          refine lv_aload_n hx hb dX8_advanceToken_241 rfl (lv_at hl 0 rfl) ?_
                          refine tw_geti 17 (v := nI e9) hx hb hts hown hKK hT (by decide) rfl (h17) (hts _ q2515) dX8_advanceToken_242 ?_
                          refine lv_aload_n hx hb dX8_advanceToken_245 rfl (lv_at hl 0 rfl) ?_
                          refine tw_geti 16 (v := nI q) hx hb hts hown hKK hT (by decide) rfl (h16) (hts _ q2514) dX8_advanceToken_246 ?_
                          refine mm_isub (by omega) hx hb dX8_advanceToken_249 ?_
                          refine lv_iconst (v := nI 3) hx hb dX8_advanceToken_250 (by decide) ?_
                          refine mm_icmp_le (tgt := 258) (by omega) (by omega) hx hb dX8_advanceToken_251 (by decide) (fun c_251 => ?_) (fun c_251 => ?_)
                          · refine lv_iconst (v := nI 2) hx hb dX8_advanceToken_258 (by decide) ?_
                            refine mm_top (y := nI (if 3 < e9 - q then 4 else 2)) (by rw [if_neg (by omega)]) ?_
                            refine tw_put 18 hx hb hts hown hKK hT hS (hMx) (by decide) rfl (by decide) ⟨rfl, rfl⟩ (hts _ q2516) dX8_advanceToken_259 (fun H_259 L_259 hT hz_259 hq_259 hS => ?_)
                            refine lv_goto (tgt := 298) hx hb dX8_advanceToken_262 (by decide) ?_
                            exact mm_vret hx hb hr hlk hS (Nat.le_of_ble_eq_true rfl) (Nat.le_of_ble_eq_true rfl) (⟨rfl, _, hT, (hxj.tr (exI.u (by decide))), hp9, (tw_un (by decide)).trans ((hxj 20 (by decide)).trans h20), ((tw_un (by decide)).trans (h16)).trans (by rw [hS9]), ((tw_un (by decide)).trans (h17)).trans (by rw [htk.1]), (tw_up _ _ _).trans (by rw [htk.2.1]), fun z => ((tw_un (by decide)).trans (h19)).trans (by rw [htk.2.2])⟩) dX8_advanceToken_298
                          · refine lv_iconst (v := nI 4) hx hb dX8_advanceToken_254 (by decide) ?_
                            refine lv_goto (tgt := 259) hx hb dX8_advanceToken_255 (by decide) ?_
                            refine mm_top (y := nI (if 3 < e9 - q then 4 else 2)) (by rw [if_pos (by omega)]) ?_
                            refine tw_put 18 hx hb hts hown hKK hT hS (hMx) (by decide) rfl (by decide) ⟨rfl, rfl⟩ (hts _ q2516) dX8_advanceToken_259 (fun H_259 L_259 hT hz_259 hq_259 hS => ?_)
                            refine lv_goto (tgt := 298) hx hb dX8_advanceToken_262 (by decide) ?_
                            exact mm_vret hx hb hr hlk hS (Nat.le_of_ble_eq_true rfl) (Nat.le_of_ble_eq_true rfl) (⟨rfl, _, hT, (hxj.tr (exI.u (by decide))), hp9, (tw_un (by decide)).trans ((hxj 20 (by decide)).trans h20), ((tw_un (by decide)).trans (h16)).trans (by rw [hS9]), ((tw_un (by decide)).trans (h17)).trans (by rw [htk.1]), (tw_up _ _ _).trans (by rw [htk.2.1]), fun z => ((tw_un (by decide)).trans (h19)).trans (by rw [htk.2.2])⟩) dX8_advanceToken_298
                        · have hlt9 := bD_lt c_180
                          refine lv_aload_n hx hb dX8_advanceToken_183 rfl (lv_at hl 0 rfl) ?_
                          refine lv_aload_n hx hb dX8_advanceToken_184 rfl (lv_at hl 0 rfl) ?_
                          refine tw_geti 17 (v := nI e9) hx hb hts hown hKK hT (by decide) rfl (h17) (hts _ q2515) dX8_advanceToken_185 ?_
                          refine lv_aload_n hx hb dX8_advanceToken_188 rfl (lv_at hl 0 rfl) ?_
                          refine tw_geti 16 (v := nI q) hx hb hts hown hKK hT (by decide) rfl (h16) (hts _ q2514) dX8_advanceToken_189 ?_
                          refine mm_isub (by omega) hx hb dX8_advanceToken_192 ?_
                          refine lv_iconst (v := nI 3) hx hb dX8_advanceToken_193 (by decide) ?_
                          refine mm_icmp_ge (tgt := 220) (by omega) (by omega) hx hb dX8_advanceToken_194 (by decide) (fun c_194 => ?_) (fun c_194 => ?_)
                          · refine lv_aload_n hx hb dX8_advanceToken_220 rfl (lv_at hl 0 rfl) ?_
                            refine tw_geti 19 (v := dv bt q (e9 - q)) hx hb hts hown hKK hT (by decide) rfl (h19) (hts _ q2517) dX8_advanceToken_221 ?_
                            refine mm_top (y := dv bt q (e9 + 1 - q)) (dv_s2 he9.1 (by omega)) ?_
                            refine tw_put 19 hx hb hts hown hKK hT hS (hMx) (by decide) rfl (by decide) ⟨rfl, rfl⟩ (hts _ q2517) dX8_advanceToken_224 (fun H_224 L_224 hT hz_224 hq_224 hS => ?_)
                            refine lv_aload_n hx hb dX8_advanceToken_227 rfl (lv_at hl 0 rfl) ?_
                            refine lv_dup hx hb dX8_advanceToken_228 rfl ?_
                            refine tw_geti 17 (v := nI e9) hx hb hts hown hKK hT (by decide) rfl ((tw_un (by decide)).trans (h17)) (hts _ q2515) dX8_advanceToken_229 ?_
                            refine lv_iconst (v := nI 1) hx hb dX8_advanceToken_232 (by decide) ?_
                            refine mm_iadd hx hb dX8_advanceToken_233 ?_
                            refine tw_put 17 hx hb hts hown hKK hT hS (hMx) (by decide) rfl (by decide) ⟨rfl, rfl⟩ (hts _ q2515) dX8_advanceToken_234 (fun H_234 L_234 hT hz_234 hq_234 hS => ?_)
                            refine lv_goto (tgt := 172) hx hb dX8_advanceToken_237 (by decide) ?_
                            exact ih_172 (e9 + 1) H_234 ((upd (upd I2 19 (dv bt q (e9 + 1 - q))) 17 (nI (e9 + 1)))) _ _ (by omega) (by have := bD_lt c_180; omega) (by rw [← hRe]; exact (R_t (bD_lt c_180) c_180).symm) (lv_sub hl [0] rfl) hT (hxj.tr ((exI.u (by decide)).tr (exI.u (by decide)))) ((tw_un (by decide)).trans ((tw_un (by decide)).trans (h16))) (tw_up _ _ _) ((tw_un (by decide)).trans (tw_up _ _ _)) hS
                          · refine lv_bipush (v := nI 10) hx hb dX8_advanceToken_197 (by decide) ?_
                            refine lv_aload_n hx hb dX8_advanceToken_199 rfl (lv_at hl 0 rfl) ?_
                            refine tw_geti 19 (v := dv bt q (e9 - q)) hx hb hts hown hKK hT (by decide) rfl (h19) (hts _ q2517) dX8_advanceToken_200 ?_
                            refine lv_imul hx hb dX8_advanceToken_203 ?_
                            refine lv_aload_n hx hb dX8_advanceToken_204 rfl (lv_at hl 0 rfl) ?_
                            refine tw_geta 12 hx hb hts hown hKK hT rfl rfl (hts _ q2510) dX8_advanceToken_205 ?_
                            refine lv_aload_n hx hb dX8_advanceToken_208 rfl (lv_at hl 0 rfl) ?_
                            refine tw_geti 17 (v := nI e9) hx hb hts hown hKK hT (by decide) rfl (h17) (hts _ q2515) dX8_advanceToken_209 ?_
                            refine mm_bald (k := e9) hx hb hKK (hT.2.2 12 rfl) mm_le.rf (by show _ < 600; omega) (by decide) dX8_advanceToken_212 ?_
                            refine mm_top (y := bt e9) (hX.2.2 e9 (bD_lt c_180)) ?_
                            refine lv_iadd hx hb dX8_advanceToken_213 ?_
                            refine lv_bipush (v := nI 48) hx hb dX8_advanceToken_214 (by decide) ?_
                            refine lv_isub hx hb dX8_advanceToken_216 ?_
                            refine mm_top (y := dv bt q (e9 + 1 - q)) (dv_s1 he9.1 (by omega)) ?_
                            refine lv_goto (tgt := 224) hx hb dX8_advanceToken_217 (by decide) ?_
                            refine tw_put 19 hx hb hts hown hKK hT hS (hMx) (by decide) rfl (by decide) ⟨rfl, rfl⟩ (hts _ q2517) dX8_advanceToken_224 (fun H_224 L_224 hT hz_224 hq_224 hS => ?_)
                            refine lv_aload_n hx hb dX8_advanceToken_227 rfl (lv_at hl 0 rfl) ?_
                            refine lv_dup hx hb dX8_advanceToken_228 rfl ?_
                            refine tw_geti 17 (v := nI e9) hx hb hts hown hKK hT (by decide) rfl ((tw_un (by decide)).trans (h17)) (hts _ q2515) dX8_advanceToken_229 ?_
                            refine lv_iconst (v := nI 1) hx hb dX8_advanceToken_232 (by decide) ?_
                            refine mm_iadd hx hb dX8_advanceToken_233 ?_
                            refine tw_put 17 hx hb hts hown hKK hT hS (hMx) (by decide) rfl (by decide) ⟨rfl, rfl⟩ (hts _ q2515) dX8_advanceToken_234 (fun H_234 L_234 hT hz_234 hq_234 hS => ?_)
                            refine lv_goto (tgt := 172) hx hb dX8_advanceToken_237 (by decide) ?_
                            exact ih_172 (e9 + 1) H_234 ((upd (upd I2 19 (dv bt q (e9 + 1 - q))) 17 (nI (e9 + 1)))) _ _ (by omega) (by have := bD_lt c_180; omega) (by rw [← hRe]; exact (R_t (bD_lt c_180) c_180).symm) (lv_sub hl [0] rfl) hT (hxj.tr ((exI.u (by decide)).tr (exI.u (by decide)))) ((tw_un (by decide)).trans ((tw_un (by decide)).trans (h16))) (tw_up _ _ _) ((tw_un (by decide)).trans (tw_up _ _ _)) hS
                    exact lp_172 _ q H_169 ((upd (upd I1 17 (nI q)) 19 (nI 0))) _ _ (Nat.lt_succ_self _) (by omega) (rfl) (lv_sub hl [0] rfl) hT (hxi.tr ((exI.u (by decide)).tr (exI.u (by decide)))) ((tw_un (by decide)).trans ((tw_un (by decide)).trans (h16))) ((tw_un (by decide)).trans (tw_up _ _ _)) (by rw [Nat.sub_self]; exact tw_up _ _ _) hS
                · have lp_106 : ∀ (fu : Nat) (e9 : Nat) (H2 : Heap) (I2 : Nat → Int32) (L : List Loc) (ls : Array Slot), n - e9 < fu → (q ≤ e9 ∧ e9 ≤ n) → (R_ (bL bt n) n e9 = R_ (bL bt n) n q) → lv_has ls 1 [(0, .ref x)] → (TW G x ad I2 F H2) → (exI [16, 17, 18, 19] I I2) → (I2 16 = nI q) → (I2 17 = nI e9) → va_S (mm_A (tw_M x ad) H) H H2 L → W p l e (mm_rm 6 200 0 0) s m ([.ref x] : List Value).toArray below meth c H2 L 0 0 (MQ below (mm_Qc H (tw_M x ad) (mm_v (fun H2 => ∃ I2, TW G x ad I2 F H2 ∧ exI [16, 17, 18, 19] I I2 ∧ PS bt n (.ok p9) I2))) ([.ref x] : List Value).toArray s 0 0 (mm_A (tw_M x ad) H)) (F0 m 106 ls []) := by
                    intro fu; induction fu with
                    | zero => intro e9 H2 I2 L ls hfu; exact absurd hfu (Nat.not_lt_zero _)
                    | succ fu ih =>
                      intro e9 H2 I2 L ls hfu he9 hRe hl hT hxj h16 h17 hS
                      have ih_106 := ih
                      have hX9 : TX_ bt n I2 F := ⟨(hxj 13 (by decide)).trans hX.1, hX.2⟩
                      refine lv_aload_n hx hb dX8_advanceToken_106 rfl (lv_at hl 0 rfl) ?_
                      refine lv_aload_n hx hb dX8_advanceToken_107 rfl (lv_at hl 0 rfl) ?_
                      refine tw_geti 17 (v := nI e9) hx hb hts hown hKK hT (by decide) rfl (h17) (hts _ q2515) dX8_advanceToken_108 ?_
                      refine mm_rpu (va_runV (As := [.int (nI e9)]) (rest := []) ⟨hx, hb, hml, hown, hts⟩ (t_isLetter l hT hX9 (by omega)) (cwV 1 hts (lw_V q2622 q2624 qs65 q164 q2625) rfl rfl rfl (by decide +kernel) ⟨Nat.le_of_ble_eq_true rfl, Nat.le_of_ble_eq_true rfl⟩) (mm_pV hKK (mm_rc hKK hT.2.1 mm_le.rf rfl)) rfl rfl hl.1 rfl (lv_room (Nat.le_of_ble_eq_true rfl)) dX8_advanceToken_111 ⟨Nat.le_of_ble_eq_true rfl, Nat.le_of_ble_eq_true rfl⟩) hS (mm_s0 hS) (fun L_111 hS => ?_)
                      refine mm_ifeqB (tgt := 130) hx hb dX8_advanceToken_114 (by decide) (fun c_114 => ?_) (fun c_114 => ?_)
                      · have htk := tk_word hS9 c_84 c_103 (hRe.symm.trans (R_f c_114))
                        refine lv_aload_n hx hb dX8_advanceToken_130 rfl (lv_at hl 0 rfl) ?_
                        refine lv_aload_n hx hb dX8_advanceToken_131 rfl (lv_at hl 0 rfl) ?_
                        refine tw_geti 17 (v := nI e9) hx hb hts hown hKK hT (by decide) rfl (h17) (hts _ q2515) dX8_advanceToken_132 ?_
                        refine lv_aload_n hx hb dX8_advanceToken_135 rfl (lv_at hl 0 rfl) ?_
                        refine tw_geti 16 (v := nI q) hx hb hts hown hKK hT (by decide) rfl (h16) (hts _ q2514) dX8_advanceToken_136 ?_
                        refine mm_isub (by omega) hx hb dX8_advanceToken_139 ?_
                        refine lv_bipush (v := nI 8) hx hb dX8_advanceToken_140 (by decide) ?_
                        refine mm_icmp_le (tgt := 149) (by omega) (by omega) hx hb dX8_advanceToken_142 (by decide) (fun c_142 => ?_) (fun c_142 => ?_)
                        · refine lv_iconst (v := nI 1) hx hb dX8_advanceToken_149 (by decide) ?_
                          refine mm_top (y := nI (if 8 < e9 - q then 4 else 1)) (by rw [if_neg (by omega)]) ?_
                          refine tw_put 18 hx hb hts hown hKK hT hS (hMx) (by decide) rfl (by decide) ⟨rfl, rfl⟩ (hts _ q2516) dX8_advanceToken_150 (fun H_150 L_150 hT hz_150 hq_150 hS => ?_)
                          refine lv_goto (tgt := 298) hx hb dX8_advanceToken_153 (by decide) ?_
                          exact mm_vret hx hb hr hlk hS (Nat.le_of_ble_eq_true rfl) (Nat.le_of_ble_eq_true rfl) (⟨rfl, _, hT, (hxj.tr (exI.u (by decide))), hp9, (tw_un (by decide)).trans ((hxj 20 (by decide)).trans h20), ((tw_un (by decide)).trans (h16)).trans (by rw [hS9]), ((tw_un (by decide)).trans (h17)).trans (by rw [htk.1]), (tw_up _ _ _).trans (by rw [htk.2]), fun z => by exfalso; rw [htk.2] at z; first | omega | (split at z <;> omega)⟩) dX8_advanceToken_298
                        · refine lv_iconst (v := nI 4) hx hb dX8_advanceToken_145 (by decide) ?_
                          refine lv_goto (tgt := 150) hx hb dX8_advanceToken_146 (by decide) ?_
                          refine mm_top (y := nI (if 8 < e9 - q then 4 else 1)) (by rw [if_pos (by omega)]) ?_
                          refine tw_put 18 hx hb hts hown hKK hT hS (hMx) (by decide) rfl (by decide) ⟨rfl, rfl⟩ (hts _ q2516) dX8_advanceToken_150 (fun H_150 L_150 hT hz_150 hq_150 hS => ?_)
                          refine lv_goto (tgt := 298) hx hb dX8_advanceToken_153 (by decide) ?_
                          exact mm_vret hx hb hr hlk hS (Nat.le_of_ble_eq_true rfl) (Nat.le_of_ble_eq_true rfl) (⟨rfl, _, hT, (hxj.tr (exI.u (by decide))), hp9, (tw_un (by decide)).trans ((hxj 20 (by decide)).trans h20), ((tw_un (by decide)).trans (h16)).trans (by rw [hS9]), ((tw_un (by decide)).trans (h17)).trans (by rw [htk.1]), (tw_up _ _ _).trans (by rw [htk.2]), fun z => by exfalso; rw [htk.2] at z; first | omega | (split at z <;> omega)⟩) dX8_advanceToken_298
                      · have hlt9 := bL_lt c_114
                        refine lv_aload_n hx hb dX8_advanceToken_117 rfl (lv_at hl 0 rfl) ?_
                        refine lv_dup hx hb dX8_advanceToken_118 rfl ?_
                        refine tw_geti 17 (v := nI e9) hx hb hts hown hKK hT (by decide) rfl (h17) (hts _ q2515) dX8_advanceToken_119 ?_
                        refine lv_iconst (v := nI 1) hx hb dX8_advanceToken_122 (by decide) ?_
                        refine mm_iadd hx hb dX8_advanceToken_123 ?_
                        refine tw_put 17 hx hb hts hown hKK hT hS (hMx) (by decide) rfl (by decide) ⟨rfl, rfl⟩ (hts _ q2515) dX8_advanceToken_124 (fun H_124 L_124 hT hz_124 hq_124 hS => ?_)
                        refine lv_goto (tgt := 106) hx hb dX8_advanceToken_127 (by decide) ?_
                        exact ih_106 (e9 + 1) H_124 ((upd I2 17 (nI (e9 + 1)))) _ _ (by omega) (by have := bL_lt c_114; omega) (by rw [← hRe]; exact (R_t (bL_lt c_114) c_114).symm) (lv_sub hl [0] rfl) hT (hxj.tr (exI.u (by decide))) ((tw_un (by decide)).trans (h16)) (tw_up _ _ _) hS
                  exact lp_106 _ q H_73 ((upd I1 17 (nI q))) _ _ (Nat.lt_succ_self _) (by omega) (rfl) (lv_sub hl [0] rfl) hT (hxi.tr (exI.u (by decide))) ((tw_un (by decide)).trans (h16)) (tw_up _ _ _) hS
              · refine lv_aload_n hx hb dX8_advanceToken_87 rfl (lv_at hl 0 rfl) ?_
                refine lv_iconst (v := nI 0) hx hb dX8_advanceToken_88 (by decide) ?_
                refine tw_put 18 hx hb hts hown hKK hT hS (hMx) (by decide) rfl (by decide) ⟨rfl, rfl⟩ (hts _ q2516) dX8_advanceToken_89 (fun H_89 L_89 hT hz_89 hq_89 hS => ?_)
                have htk := tk_end hS9 c_84
                refine lv_goto (tgt := 298) hx hb dX8_advanceToken_92 (by decide) ?_
                exact mm_vret hx hb hr hlk hS (Nat.le_of_ble_eq_true rfl) (Nat.le_of_ble_eq_true rfl) (⟨rfl, _, hT, (hxi.tr ((exI.u (by decide)).tr (exI.u (by decide)))), hp9, (tw_un (by decide)).trans ((tw_un (by decide)).trans ((hxi 20 (by decide)).trans h20)), ((tw_un (by decide)).trans ((tw_un (by decide)).trans (h16))).trans (by rw [hS9]), ((tw_un (by decide)).trans (tw_up _ _ _)).trans (by rw [htk.1]), (tw_up _ _ _).trans (by rw [htk.2]), fun z => by exfalso; rw [htk.2] at z; first | omega | (split at z <;> omega)⟩) dX8_advanceToken_298
            · refine lv_aload_n hx hb dX8_advanceToken_55 rfl (lv_at hl 0 rfl) ?_
              refine lv_dup hx hb dX8_advanceToken_56 rfl ?_
              refine tw_geti 16 (v := nI q) hx hb hts hown hKK hT (by decide) rfl (h16) (hts _ q2514) dX8_advanceToken_57 ?_
              refine lv_iconst (v := nI 1) hx hb dX8_advanceToken_60 (by decide) ?_
              refine mm_iadd hx hb dX8_advanceToken_61 ?_
              refine tw_put 16 hx hb hts hown hKK hT hS (hMx) (by decide) rfl (by decide) ⟨rfl, rfl⟩ (hts _ q2514) dX8_advanceToken_62 (fun H_62 L_62 hT hz_62 hq_62 hS => ?_)
              refine lv_goto (tgt := 16) hx hb dX8_advanceToken_65 (by decide) ?_
              exact ih_16 (q + 1) H_62 ((upd I1 16 (nI (q + 1)))) _ _ (by omega) (by omega) (by rw [← hR9]; exact (R_t (by omega) (bS_t (by omega) (.inr c_52))).symm) (lv_sub hl [0] rfl) hT (hxi.tr (exI.u (by decide))) (tw_up _ _ _) hS
    exact lp_16 _ p9 H_13 ((upd I 16 (nI p9))) _ _ (Nat.lt_succ_self _) (by omega) (rfl) (lv_sub hl [0] rfl) hT (exI.u (by decide)) (tw_up _ _ _) hS
  · exact absurd c_4 (by decide)
