/-! the twin: words, numbers (printed by tools/tw20.py) -/
set_option maxRecDepth 100000 in
theorem t_isWordok (l : Launch) {G : mm_G} {P : mm_H} {H : Heap} {x : Nat} {ad : Nat → Nat} {I : Nat → Int32} {F : Nat → Nat → Int32} {bt : Nat → Int32} {n : Nat} {p9 : Nat} {a : Nat} {w : List Nat} (hT : TW G x ad I F H) (hF : mm_le P (mm_h H)) (hB : mm_bs G H a w.length (fun j => w.getD j 0)) (hX : TX_ bt n I F) (hP : PS bt n (.ok p9) I) : Mt l yX8_isWord (ws_ yX8_isWord cX8_isWord 3 (some .boolean)) 4 120 0 0 G P [.ref x, .ref a] H mm_0 (mm_pu (.int (mm_b (isW bt n p9 w))) H) := by
  refine Mt.of (by decide) (Nat.le_of_ble_eq_true rfl) (fun p e s m below meth c ls hx hb hr hlk hml hown hnm hts hKK hsH hl hS => ?_)
  have hl : lv_has ls 3 [(0, .ref x), (1, .ref a)] := hl
  have hxi : exI [16, 17, 18, 19, 20, 21] I I := exI.rf
  have hn6 := hX.2.1
  have hbd_p9 := tk_bd (b := bt) (show p9 ≤ n from hP.1)
  obtain ⟨v1, h1, z1, hO1, hV1⟩ := mm_bs.at hB hKK hF
  obtain ⟨-, hn1, -⟩ := mm_ba.at hV1 hKK hF
  refine lv_aload_n hx hb dX8_isWord_0 rfl (lv_at hl 0 rfl) ?_
  refine tw_geti 20 (v := nI 0) hx hb hts hown hKK hT (by decide) rfl (hP.2.1) (hts _ q2518) dX8_isWord_1 ?_
  refine mm_if_gt (tgt := 31) (by omega) hx hb dX8_isWord_4 (by decide) (fun c_4 => ?_) (fun c_4 => ?_)
  · exact absurd c_4 (by decide)
  · refine lv_aload_n hx hb dX8_isWord_7 rfl (lv_at hl 0 rfl) ?_
    refine tw_geti 18 (v := nI (tkK bt n p9)) hx hb hts hown hKK hT (by decide) rfl (hP.2.2.2.2.1) (hts _ q2516) dX8_isWord_8 ?_
    refine lv_iconst (v := nI 1) hx hb dX8_isWord_11 (by decide) ?_
    refine mm_icmp_ne (tgt := 31) (by omega) (by omega) hx hb dX8_isWord_12 (by decide) (fun c_12 => ?_) (fun c_12 => ?_)
    · refine lv_iconst (v := nI 0) hx hb dX8_isWord_31 (by decide) ?_
      exact mm_zret (v := nI 0) hx hb hr hlk hS (Nat.le_of_ble_eq_true rfl) (Nat.le_of_ble_eq_true rfl) (rfl) (⟨mm_e0 (by unfold isW; first | (rw [decide_eq_false c_12, Bool.false_and]) | (rw [decide_eq_false c_28, Bool.false_and, Bool.and_false])), rfl⟩) dX8_isWord_32
    · refine lv_aload_n hx hb dX8_isWord_15 rfl (lv_at hl 0 rfl) ?_
      refine tw_geti 17 (v := nI (tkE bt n p9)) hx hb hts hown hKK hT (by decide) rfl (hP.2.2.2.1) (hts _ q2515) dX8_isWord_16 ?_
      refine lv_aload_n hx hb dX8_isWord_19 rfl (lv_at hl 0 rfl) ?_
      refine tw_geti 16 (v := nI (tkS bt n p9)) hx hb hts hown hKK hT (by decide) rfl (hP.2.2.1) (hts _ q2514) dX8_isWord_20 ?_
      refine mm_isub (by omega) hx hb dX8_isWord_23 ?_
      refine lv_aload_n hx hb dX8_isWord_24 rfl (lv_at hl 1 rfl) ?_
      refine mm_rpu (va_runV (As := []) (rest := [.int (nI ((tkE bt n p9) - (tkS bt n p9)))]) ⟨hx, hb, hml, hown, hts⟩ (j_length l hF hB) (cwV 0 hts (lw_V q2643 q483 q484 q153 q485) rfl rfl rfl (by decide +kernel) ⟨Nat.le_of_ble_eq_true rfl, Nat.le_of_ble_eq_true rfl⟩) (mm_pV hKK (mm_rcb hKK hO1 mm_le.rf rfl)) rfl rfl hl.1 rfl (lv_room (Nat.le_of_ble_eq_true rfl)) dX8_isWord_25 ⟨Nat.le_of_ble_eq_true rfl, Nat.le_of_ble_eq_true rfl⟩) hS (mm_s0 hS) (fun L_25 hS => ?_)
      refine mm_icmp_eq (tgt := 33) (by omega) (by omega) hx hb dX8_isWord_28 (by decide) (fun c_28 => ?_) (fun c_28 => ?_)
      · refine lv_iconst (v := nI 0) hx hb dX8_isWord_33 (by decide) ?_
        refine lv_istore_n (lv' := [(2, .int (nI 0)), (0, .ref x), (1, .ref a)]) hx hb dX8_isWord_34 rfl hl (by decide) rfl (fun ls hl => ?_)
        have lp_35 : ∀ (fu : Nat) (i : Nat)  (L : List Loc) (ls : Array Slot), w.length - i < fu → (i ≤ w.length) → (eqW bt (tkS bt n p9) w i = true) → lv_has ls 3 [(2, .int (nI i)), (0, .ref x), (1, .ref a)] → va_S (mm_A mm_0 H) H H L → W p l e (mm_rm 4 120 0 0) s m ([.ref x, .ref a] : List Value).toArray below meth c H L 0 0 (MQ below (mm_Qc H mm_0 (mm_pu (.int (mm_b (isW bt n p9 w))) H)) ([.ref x, .ref a] : List Value).toArray s 0 0 (mm_A mm_0 H)) (F0 m 35 ls []) := by
          intro fu; induction fu with
          | zero => intro i L ls hfu; exact absurd hfu (Nat.not_lt_zero _)
          | succ fu ih =>
            intro i L ls hfu hi hq9 hl  hS
            have ih_35 := ih
            refine lv_iload_n hx hb dX8_isWord_35 rfl (lv_at hl 0 rfl) ?_
            refine lv_aload_n hx hb dX8_isWord_36 rfl (lv_at hl 2 rfl) ?_
            refine mm_rpu (va_runV (As := []) (rest := [.int (nI i)]) ⟨hx, hb, hml, hown, hts⟩ (j_length l hF hB) (cwV 0 hts (lw_V q2643 q483 q484 q153 q485) rfl rfl rfl (by decide +kernel) ⟨Nat.le_of_ble_eq_true rfl, Nat.le_of_ble_eq_true rfl⟩) (mm_pV hKK (mm_rcb hKK hO1 mm_le.rf rfl)) rfl rfl hl.1 rfl (lv_room (Nat.le_of_ble_eq_true rfl)) dX8_isWord_37 ⟨Nat.le_of_ble_eq_true rfl, Nat.le_of_ble_eq_true rfl⟩) hS (mm_s0 hS) (fun L_37 hS => ?_)
            refine mm_icmp_ge (tgt := 70) (by omega) (by omega) hx hb dX8_isWord_40 (by decide) (fun c_40 => ?_) (fun c_40 => ?_)
            · refine lv_iconst (v := nI 1) hx hb dX8_isWord_70 (by decide) ?_
              exact mm_zret (v := nI 1) hx hb hr hlk hS (Nat.le_of_ble_eq_true rfl) (Nat.le_of_ble_eq_true rfl) (rfl) (⟨mm_e1 (by unfold isW; rw [decide_eq_true c_12, decide_eq_true c_28, show w.length = i by omega, hq9]; rfl), rfl⟩) dX8_isWord_71
            · refine lv_aload_n hx hb dX8_isWord_43 rfl (lv_at hl 1 rfl) ?_
              refine tw_geta 12 hx hb hts hown hKK hT rfl rfl (hts _ q2510) dX8_isWord_44 ?_
              refine lv_aload_n hx hb dX8_isWord_47 rfl (lv_at hl 1 rfl) ?_
              refine tw_geti 16 (v := nI (tkS bt n p9)) hx hb hts hown hKK hT (by decide) rfl (hP.2.2.1) (hts _ q2514) dX8_isWord_48 ?_
              refine lv_iload_n hx hb dX8_isWord_51 rfl (lv_at hl 0 rfl) ?_
              refine mm_iadd hx hb dX8_isWord_52 ?_
              refine mm_bald (k := (tkS bt n p9 + i)) hx hb hKK (hT.2.2 12 rfl) mm_le.rf (by show _ < 600; omega) (by decide) dX8_isWord_53 ?_
              refine mm_top (y := bt (tkS bt n p9 + i)) (hX.2.2 _ (by omega)) ?_
              refine lv_aload_n hx hb dX8_isWord_54 rfl (lv_at hl 2 rfl) ?_
              refine lv_iload_n hx hb dX8_isWord_55 rfl (lv_at hl 0 rfl) ?_
              refine mm_rpu (va_runV (As := [.int (nI i)]) (rest := [.int (bt (tkS bt n p9 + i))]) ⟨hx, hb, hml, hown, hts⟩ (j_charAt l hF hB (i := i) (by omega)) (cwV 1 hts (lw_V q2644 q2645 q2646 q153 q2647) rfl rfl rfl (by decide +kernel) ⟨Nat.le_of_ble_eq_true rfl, Nat.le_of_ble_eq_true rfl⟩) (mm_pV hKK (mm_rcb hKK hO1 mm_le.rf rfl)) rfl rfl hl.1 rfl (lv_room (Nat.le_of_ble_eq_true rfl)) dX8_isWord_56 ⟨Nat.le_of_ble_eq_true rfl, Nat.le_of_ble_eq_true rfl⟩) hS (mm_s0 hS) (fun L_56 hS => ?_)
              refine lv_icmp_eq (tgt := 64) hx hb dX8_isWord_59 (by decide) (fun c_59 => ?_) (fun c_59 => ?_)
              · refine lv_iinc (v := nI (i + 1)) (lv' := [(2, .int (nI (i + 1))), (0, .ref x), (1, .ref a)]) hx hb dX8_isWord_64 hl (k := 0) rfl (nI_add _ _) (by decide) rfl (fun ls hl => ?_)
                refine lv_goto (tgt := 35) hx hb dX8_isWord_67 (by decide) ?_
                exact ih_35 (i + 1) _ _ (by omega) (by omega) (by show (_ && _) = true; rw [hq9, decide_eq_true (show bt (tkS bt n p9 + i) = nI (w.getD i 0) from c_59)]; rfl) (lv_sub hl [0, 1, 2] rfl)  hS
              · refine lv_iconst (v := nI 0) hx hb dX8_isWord_62 (by decide) ?_
                exact mm_zret (v := nI 0) hx hb hr hlk hS (Nat.le_of_ble_eq_true rfl) (Nat.le_of_ble_eq_true rfl) (rfl) (⟨mm_e0 (by unfold isW; rw [eqW_f c_59 c_40, Bool.and_false, Bool.and_false]), rfl⟩) dX8_isWord_63
        exact lp_35 _ 0 _ _ (Nat.lt_succ_self _) (by omega) (rfl) (lv_sub hl [0, 1, 2] rfl)  hS
      · refine lv_iconst (v := nI 0) hx hb dX8_isWord_31 (by decide) ?_
        exact mm_zret (v := nI 0) hx hb hr hlk hS (Nat.le_of_ble_eq_true rfl) (Nat.le_of_ble_eq_true rfl) (rfl) (⟨mm_e0 (by unfold isW; first | (rw [decide_eq_false c_12, Bool.false_and]) | (rw [decide_eq_false c_28, Bool.false_and, Bool.and_false])), rfl⟩) dX8_isWord_32
set_option maxRecDepth 100000 in
theorem t_isWorder (l : Launch) {G : mm_G} {P : mm_H} {H : Heap} {x : Nat} {ad : Nat → Nat} {I : Nat → Int32} {F : Nat → Nat → Int32} {bt : Nat → Int32} {n : Nat} {c9 o9 : Nat} {a : Nat} {w : List Nat} (hT : TW G x ad I F H) (hF : mm_le P (mm_h H)) (hB : mm_bs G H a w.length (fun j => w.getD j 0)) (hX : TX_ bt n I F) (hP : PS bt n (.error (c9, o9)) I) : Mt l yX8_isWord (ws_ yX8_isWord cX8_isWord 3 (some .boolean)) 4 120 0 0 G P [.ref x, .ref a] H mm_0 (mm_pu (.int (mm_b false)) H) := by
  refine Mt.of (by decide) (Nat.le_of_ble_eq_true rfl) (fun p e s m below meth c ls hx hb hr hlk hml hown hnm hts hKK hsH hl hS => ?_)
  have hl : lv_has ls 3 [(0, .ref x), (1, .ref a)] := hl
  have hxi : exI [16, 17, 18, 19, 20, 21] I I := exI.rf
  have hn6 := hX.2.1
  have hce_1 := hP.1
  have hc1 : 1 ≤ c9 := hP.1.1
  have hc3 : c9 ≤ 3 := hP.1.2
  obtain ⟨v1, h1, z1, hO1, hV1⟩ := mm_bs.at hB hKK hF
  obtain ⟨-, hn1, -⟩ := mm_ba.at hV1 hKK hF
  refine lv_aload_n hx hb dX8_isWord_0 rfl (lv_at hl 0 rfl) ?_
  refine tw_geti 20 (v := nI c9) hx hb hts hown hKK hT (by decide) rfl (hP.2.1) (hts _ q2518) dX8_isWord_1 ?_
  refine mm_if_gt (tgt := 31) (by omega) hx hb dX8_isWord_4 (by decide) (fun c_4 => ?_) (fun c_4 => ?_)
  · refine lv_iconst (v := nI 0) hx hb dX8_isWord_31 (by decide) ?_
    exact mm_zret (v := nI 0) hx hb hr hlk hS (Nat.le_of_ble_eq_true rfl) (Nat.le_of_ble_eq_true rfl) (rfl) (⟨rfl, rfl⟩) dX8_isWord_32
  · exact absurd c_4 (by omega)
def p_isW (b : Nat → Int32) (n : Nat) (r : pR Nat) (w : List Nat) : Bool := match r with
  | .ok p => isW b n p w
  | .error _ => false
theorem t_isWord (l : Launch) {G : mm_G} {P : mm_H} {H : Heap} {x : Nat} {ad : Nat → Nat} {I : Nat → Int32} {F : Nat → Nat → Int32} {bt : Nat → Int32} {n : Nat} {r : pR Nat} {a : Nat} {w : List Nat} (hT : TW G x ad I F H) (hF : mm_le P (mm_h H)) (hB : mm_bs G H a w.length (fun j => w.getD j 0)) (hX : TX_ bt n I F) (hP : PS bt n r I) : Mt l yX8_isWord (ws_ yX8_isWord cX8_isWord 3 (some .boolean)) 4 120 0 0 G P [.ref x, .ref a] H mm_0 (mm_pu (.int (mm_b (p_isW bt n r w))) H) := by
  cases r with
  | ok p => exact t_isWordok l hT hF hB hX hP
  | error e => exact t_isWorder l hT hF hB hX hP
set_option maxRecDepth 100000 in
theorem t_beginText (l : Launch) {G : mm_G} {P : mm_H} {H : Heap} {x : Nat} {ad : Nat → Nat} {I : Nat → Int32} {F : Nat → Nat → Int32} {bt : Nat → Int32} {n : Nat} (hT : TW G x ad I F H) (hX : TX_ bt n I F) : Mt l yX8_beginText (ws_ yX8_beginText cX8_beginText 1 none) 8 240 0 0 G P [.ref x] H (tw_M x ad) (mm_v (fun H2 => ∃ I2, TW G x ad I2 F H2 ∧ exI [16, 17, 18, 19, 20, 21] I I2 ∧ PS bt n (.ok 0) I2)) := by
  refine Mt.of (by decide) (Nat.le_of_ble_eq_true rfl) (fun p e s m below meth c ls hx hb hr hlk hml hown hnm hts hKK hsH hl hS => ?_)
  have hl : lv_has ls 1 [(0, .ref x)] := hl
  have hMx : mm_A (tw_M x ad) H x := Or.inl (Or.inl rfl)
  have hMa : ∀ j, tw_isA j = true → mm_A (tw_M x ad) H (ad j) := fun j hj => Or.inl (Or.inr ⟨j, hj, rfl⟩)
  refine lv_aload_n hx hb dX8_beginText_0 rfl (lv_at hl 0 rfl) ?_
  refine lv_iconst (v := nI 0) hx hb dX8_beginText_1 (by decide) ?_
  refine tw_put 20 hx hb hts hown hKK hT hS (hMx) (by decide) rfl (by decide) ⟨rfl, rfl⟩ (hts _ q2518) dX8_beginText_2 (fun H_2 L_2 hT hz_2 hq_2 hS => ?_)
  refine lv_aload_n hx hb dX8_beginText_5 rfl (lv_at hl 0 rfl) ?_
  refine lv_iconst (v := nI 0) hx hb dX8_beginText_6 (by decide) ?_
  refine tw_put 17 hx hb hts hown hKK hT hS (hMx) (by decide) rfl (by decide) ⟨rfl, rfl⟩ (hts _ q2515) dX8_beginText_7 (fun H_7 L_7 hT hz_7 hq_7 hS => ?_)
  refine lv_aload_n hx hb dX8_beginText_10 rfl (lv_at hl 0 rfl) ?_
  refine mm_rv (va_runV (As := []) (rest := []) ⟨hx, hb, hml, hown, hts⟩ (t_advanceOk l (p9 := 0) hT ⟨(tw_un (by decide)).trans ((tw_un (by decide)).trans hX.1), hX.2⟩ ((tw_un (by decide)).trans (tw_up _ _ _)) (tw_up _ _ _) (Nat.zero_le _)) (cwV 0 hts (lw_V q2618 q2620 qs64 q164 q2621) rfl rfl rfl (by decide +kernel) ⟨Nat.le_of_ble_eq_true rfl, Nat.le_of_ble_eq_true rfl⟩) (mm_pV hKK (mm_rc hKK hT.2.1 mm_le.rf rfl)) rfl rfl hl.1 rfl (lv_room (Nat.le_of_ble_eq_true rfl)) dX8_beginText_11 ⟨Nat.le_of_ble_eq_true rfl, Nat.le_of_ble_eq_true rfl⟩) hS (mm_sS hS) (fun H_11 L_11 hB_11 hz_11 hq_11 hS => ?_)
  obtain ⟨I_11, hT, hx_11, hP⟩ := hB_11
  have hx_11 : exI [16, 17, 18, 19, 20, 21] I I_11 := ((exI.u (by decide)).tr (exI.u (by decide))).tr (hx_11.mono (by decide))
  exact mm_vret hx hb hr hlk hS (Nat.le_of_ble_eq_true rfl) (Nat.le_of_ble_eq_true rfl) (⟨rfl, _, hT, hx_11, hP⟩) dX8_beginText_14
set_option maxRecDepth 100000 in
theorem t_endText (l : Launch) {G : mm_G} {P : mm_H} {H : Heap} {x : Nat} {ad : Nat → Nat} {I : Nat → Int32} {F : Nat → Nat → Int32} {c9 o9 : Nat} (hT : TW G x ad I F H) (h20 : I 20 = nI c9) (hc9 : c9 ≤ 3) (h21 : c9 ≠ 0 → I 21 = nI o9) : Mt l yX8_endText (ws_ yX8_endText cX8_endText 1 none) 1 40 0 0 G P [.ref x] H (tw_M x ad) (mm_v (fun H2 => ∃ I2, TW G x ad I2 F H2 ∧ exI [13, 14, 15] I I2 ∧ I2 13 = nI 0 ∧ I2 14 = nI c9 ∧ I2 15 = if c9 = 0 then -1 else nI o9)) := by
  refine Mt.of (by decide) (Nat.le_of_ble_eq_true rfl) (fun p e s m below meth c ls hx hb hr hlk hml hown hnm hts hKK hsH hl hS => ?_)
  have hl : lv_has ls 1 [(0, .ref x)] := hl
  have hMx : mm_A (tw_M x ad) H x := Or.inl (Or.inl rfl)
  have hMa : ∀ j, tw_isA j = true → mm_A (tw_M x ad) H (ad j) := fun j hj => Or.inl (Or.inr ⟨j, hj, rfl⟩)
  refine lv_aload_n hx hb dX8_endText_0 rfl (lv_at hl 0 rfl) ?_
  refine lv_aload_n hx hb dX8_endText_1 rfl (lv_at hl 0 rfl) ?_
  refine tw_geti 20 (v := nI c9) hx hb hts hown hKK hT (by decide) rfl (h20) (hts _ q2518) dX8_endText_2 ?_
  refine tw_put 14 hx hb hts hown hKK hT hS (hMx) (by decide) rfl (by decide) ⟨rfl, rfl⟩ (hts _ q2512) dX8_endText_5 (fun H_5 L_5 hT hz_5 hq_5 hS => ?_)
  refine lv_aload_n hx hb dX8_endText_8 rfl (lv_at hl 0 rfl) ?_
  refine lv_aload_n hx hb dX8_endText_9 rfl (lv_at hl 0 rfl) ?_
  refine tw_geti 20 (v := nI c9) hx hb hts hown hKK hT (by decide) rfl ((tw_un (by decide)).trans (h20)) (hts _ q2518) dX8_endText_10 ?_
  refine mm_if_ne (tgt := 20) (by omega) hx hb dX8_endText_13 (by decide) (fun c_13 => ?_) (fun c_13 => ?_)
  · refine lv_aload_n hx hb dX8_endText_20 rfl (lv_at hl 0 rfl) ?_
    refine tw_geti 21 (v := (upd I 14 (nI c9)) 21) hx hb hts hown hKK hT (by decide) rfl (rfl) (hts _ q2519) dX8_endText_21 ?_
    refine tw_put 15 hx hb hts hown hKK hT hS (hMx) (by decide) rfl (by decide) ⟨rfl, rfl⟩ (hts _ q2513) dX8_endText_24 (fun H_24 L_24 hT hz_24 hq_24 hS => ?_)
    refine lv_aload_n hx hb dX8_endText_27 rfl (lv_at hl 0 rfl) ?_
    refine lv_iconst (v := nI 0) hx hb dX8_endText_28 (by decide) ?_
    refine tw_put 13 hx hb hts hown hKK hT hS (hMx) (by decide) rfl (by decide) ⟨rfl, rfl⟩ (hts _ q2511) dX8_endText_29 (fun H_29 L_29 hT hz_29 hq_29 hS => ?_)
    exact mm_vret hx hb hr hlk hS (Nat.le_of_ble_eq_true rfl) (Nat.le_of_ble_eq_true rfl) (⟨rfl, _, hT, (exI.u (by decide)).tr ((exI.u (by decide)).tr (exI.u (by decide))), tw_up _ _ _, (tw_un (by decide)).trans ((tw_un (by decide)).trans (tw_up _ _ _)), (tw_un (by decide)).trans ((tw_up _ _ _).trans (by first | exact (if_pos c_13).symm | exact ((tw_un (by decide)).trans (h21 c_13)).trans (if_neg c_13).symm))⟩) dX8_endText_32
  · refine lv_iconst (v := (-1)) hx hb dX8_endText_16 (by decide) ?_
    refine lv_goto (tgt := 24) hx hb dX8_endText_17 (by decide) ?_
    refine tw_put 15 hx hb hts hown hKK hT hS (hMx) (by decide) rfl (by decide) ⟨rfl, rfl⟩ (hts _ q2513) dX8_endText_24 (fun H_24 L_24 hT hz_24 hq_24 hS => ?_)
    refine lv_aload_n hx hb dX8_endText_27 rfl (lv_at hl 0 rfl) ?_
    refine lv_iconst (v := nI 0) hx hb dX8_endText_28 (by decide) ?_
    refine tw_put 13 hx hb hts hown hKK hT hS (hMx) (by decide) rfl (by decide) ⟨rfl, rfl⟩ (hts _ q2511) dX8_endText_29 (fun H_29 L_29 hT hz_29 hq_29 hS => ?_)
    exact mm_vret hx hb hr hlk hS (Nat.le_of_ble_eq_true rfl) (Nat.le_of_ble_eq_true rfl) (⟨rfl, _, hT, (exI.u (by decide)).tr ((exI.u (by decide)).tr (exI.u (by decide))), tw_up _ _ _, (tw_un (by decide)).trans ((tw_un (by decide)).trans (tw_up _ _ _)), (tw_un (by decide)).trans ((tw_up _ _ _).trans (by first | exact (if_pos c_13).symm | exact ((tw_un (by decide)).trans (h21 c_13)).trans (if_neg c_13).symm))⟩) dX8_endText_32
def p_num (b : Nat → Int32) (n : Nat) (r : pR Nat) (hi : Nat) : pR (Nat × Nat) := match r with
  | .ok p => pNum b n p hi
  | .error e => .error e
theorem pN_1 {b : Nat → Int32} {n p hi : Nat} (h : ¬ tkK b n p = 2) : p_num b n (.ok p) hi = .error (1, tkS b n p) := if_neg h
theorem pN_2 {b : Nat → Int32} {n p hi : Nat} (h : tkK b n p = 2) (k : tkN b n p ≤ hi) : p_num b n (.ok p) hi = .ok (tkN b n p, tkE b n p) := (if_pos h).trans (if_pos k)
theorem pN_3 {b : Nat → Int32} {n p hi : Nat} (h : tkK b n p = 2) (k : ¬ tkN b n p ≤ hi) : p_num b n (.ok p) hi = .error (2, tkS b n p) := (if_pos h).trans (if_neg k)
theorem w_N {v hi : Nat} (h : v ≤ 999) (k : hi ≤ 999) : decide ((nI 0).toInt64 ≤ (nI v).toInt64 ∧ (nI v).toInt64 ≤ (nI hi).toInt64) = decide (v ≤ hi) := by
  congr 1; apply propext; rw [l64_le, l64_le, nI_toInt (by omega), nI_toInt (by omega), nI_toInt (by omega)]; omega
set_option maxRecDepth 100000 in
theorem t_parseNumberok (l : Launch) {G : mm_G} {P : mm_H} {H : Heap} {x : Nat} {ad : Nat → Nat} {I : Nat → Int32} {F : Nat → Nat → Int32} {bt : Nat → Int32} {n : Nat} {p9 : Nat} {hi : Nat} (hT : TW G x ad I F H) (hX : TX_ bt n I F) (hP : PS bt n (.ok p9) I) (hh9 : hi ≤ 999) : Mt l yX8_parseNumber (ws_ yX8_parseNumber cX8_parseNumber 4 (some .int)) 8 260 0 0 G P [.ref x, .int (nI 0), .int (nI hi)] H (tw_M x ad) (mm_i (nI (p_vN (p_num bt n (.ok p9) hi))) (fun H2 => ∃ I2, TW G x ad I2 F H2 ∧ exI [16, 17, 18, 19, 20, 21] I I2 ∧ PS bt n (p_pos (p_num bt n (.ok p9) hi)) I2)) := by
  refine Mt.of (by decide) (Nat.le_of_ble_eq_true rfl) (fun p e s m below meth c ls hx hb hr hlk hml hown hnm hts hKK hsH hl hS => ?_)
  have hl : lv_has ls 4 [(0, .ref x), (1, .int (nI 0)), (2, .int (nI hi))] := hl
  have hMx : mm_A (tw_M x ad) H x := Or.inl (Or.inl rfl)
  have hMa : ∀ j, tw_isA j = true → mm_A (tw_M x ad) H (ad j) := fun j hj => Or.inl (Or.inr ⟨j, hj, rfl⟩)
  have hxi : exI [16, 17, 18, 19, 20, 21] I I := exI.rf
  have hn6 := hX.2.1
  have hbd_p9 := tk_bd (b := bt) (show p9 ≤ n from hP.1)
  refine lv_aload_n hx hb dX8_parseNumber_0 rfl (lv_at hl 0 rfl) ?_
  refine lv_aload_n hx hb dX8_parseNumber_1 rfl (lv_at hl 0 rfl) ?_
  refine tw_geti 18 (v := nI (tkK bt n p9)) hx hb hts hown hKK hT (by decide) rfl (hP.2.2.2.2.1) (hts _ q2516) dX8_parseNumber_2 ?_
  refine lv_iconst (v := nI 2) hx hb dX8_parseNumber_5 (by decide) ?_
  refine mm_icmp_ne (tgt := 13) (by omega) (by omega) hx hb dX8_parseNumber_6 (by decide) (fun c_6 => ?_) (fun c_6 => ?_)
  · refine lv_iconst (v := nI 0) hx hb dX8_parseNumber_13 (by decide) ?_
    refine mm_top (y := mm_b false) rfl ?_
    refine lv_iconst (v := nI 1) hx hb dX8_parseNumber_14 (by decide) ?_
    refine mm_rv (va_runV (As := [.int (mm_b false), .int (nI 1)]) (rest := []) ⟨hx, hb, hml, hown, hts⟩ (t_expect l hT hX hP (by decide) (by decide)) (cwV 2 hts (lw_V q2655 q2657 qs69 q164 q2658) rfl rfl rfl (by decide +kernel) ⟨Nat.le_of_ble_eq_true rfl, Nat.le_of_ble_eq_true rfl⟩) (mm_pV hKK (mm_rc hKK hT.2.1 mm_le.rf rfl)) rfl rfl hl.1 rfl (lv_room (Nat.le_of_ble_eq_true rfl)) dX8_parseNumber_15 ⟨Nat.le_of_ble_eq_true rfl, Nat.le_of_ble_eq_true rfl⟩) hS (mm_sS hS) (fun H_15 L_15 hB_15 hz_15 hq_15 hS => ?_)
    obtain ⟨I_15, hT, hx_15, hP⟩ := hB_15
    have hxi := hxi.tr (hx_15.mono (by decide))
    have hX : TX_ bt n I_15 F := ⟨(hx_15 13 (by decide)).trans hX.1, hX.2.1, hX.2.2⟩
    have hP : PS bt n (.error (1, tkS bt n p9)) I_15 := hP
    have hce_2 := hP.1
    refine lv_aload_n hx hb dX8_parseNumber_18 rfl (lv_at hl 0 rfl) ?_
    refine lv_aload_n hx hb dX8_parseNumber_19 rfl (lv_at hl 0 rfl) ?_
    refine tw_geti 19 (v := I_15 19) hx hb hts hown hKK hT (by decide) rfl (rfl) (hts _ q2517) dX8_parseNumber_20 ?_
    refine lv_i2l (v := (I_15 19).toInt64) hx hb dX8_parseNumber_23 rfl ?_
    refine lv_iload_n hx hb dX8_parseNumber_24 rfl (lv_at hl 1 rfl) ?_
    refine lv_i2l (v := (nI 0).toInt64) hx hb dX8_parseNumber_25 rfl ?_
    refine lv_iload_n hx hb dX8_parseNumber_26 rfl (lv_at hl 2 rfl) ?_
    refine lv_i2l (v := (nI hi).toInt64) hx hb dX8_parseNumber_27 rfl ?_
    refine mm_rpu (va_runS (As := [.long ((I_15 19).toInt64), .long ((nI 0).toInt64), .long ((nI hi).toInt64)]) (rest := [.ref x]) ⟨hx, hb, hml, hown, hts⟩ (t_isWithin l ) (va_cwS 3 hts (lw_S q2599 q2600 q164 q2601) rfl rfl rfl (by decide +kernel) ⟨Nat.le_of_ble_eq_true rfl, Nat.le_of_ble_eq_true rfl⟩) (mm_pS hKK) rfl rfl hl.1 rfl (lv_room (Nat.le_of_ble_eq_true rfl)) dX8_parseNumber_28 ⟨Nat.le_of_ble_eq_true rfl, Nat.le_of_ble_eq_true rfl⟩) hS (mm_s0 hS) (fun L_28 hS => ?_)
    refine lv_iconst (v := nI 2) hx hb dX8_parseNumber_31 (by decide) ?_
    refine mm_rv (va_runV (As := [.int (mm_b (decide ((nI 0).toInt64 ≤ (I_15 19).toInt64 ∧ (I_15 19).toInt64 ≤ (nI hi).toInt64))), .int (nI 2)]) (rest := []) ⟨hx, hb, hml, hown, hts⟩ (t_expect l hT hX hP (by decide) (by decide)) (cwV 2 hts (lw_V q2655 q2657 qs69 q164 q2658) rfl rfl rfl (by decide +kernel) ⟨Nat.le_of_ble_eq_true rfl, Nat.le_of_ble_eq_true rfl⟩) (mm_pV hKK (mm_rc hKK hT.2.1 mm_le.rf rfl)) rfl rfl hl.1 rfl (lv_room (Nat.le_of_ble_eq_true rfl)) dX8_parseNumber_32 ⟨Nat.le_of_ble_eq_true rfl, Nat.le_of_ble_eq_true rfl⟩) hS (mm_sS hS) (fun H_32 L_32 hB_32 hz_32 hq_32 hS => ?_)
    obtain ⟨I_32, hT, hx_32, hP⟩ := hB_32
    have hxi := hxi.tr (hx_32.mono (by decide))
    have hX : TX_ bt n I_32 F := ⟨(hx_32 13 (by decide)).trans hX.1, hX.2.1, hX.2.2⟩
    have hP : PS bt n (.error (1, tkS bt n p9)) I_32 := hP
    have hce_3 := hP.1
    refine lv_aload_n hx hb dX8_parseNumber_35 rfl (lv_at hl 0 rfl) ?_
    refine tw_geti 20 (v := nI 1) hx hb hts hown hKK hT (by decide) rfl (hP.2.1) (hts _ q2518) dX8_parseNumber_36 ?_
    refine mm_if_ne (tgt := 49) (by omega) hx hb dX8_parseNumber_39 (by decide) (fun c_39 => ?_) (fun c_39 => ?_)
    · refine lv_iload_n hx hb dX8_parseNumber_49 rfl (lv_at hl 1 rfl) ?_
      refine lv_istore_n (lv' := [(3, .int (nI 0)), (0, .ref x), (1, .int (nI 0)), (2, .int (nI hi))]) hx hb dX8_parseNumber_50 rfl hl (by decide) rfl (fun ls hl => ?_)
      refine lv_aload_n hx hb dX8_parseNumber_51 rfl (lv_at hl 1 rfl) ?_
      refine mm_rv (va_runV (As := []) (rest := []) ⟨hx, hb, hml, hown, hts⟩ (t_advance l hT hX hP) (cwV 0 hts (lw_V q2618 q2620 qs64 q164 q2621) rfl rfl rfl (by decide +kernel) ⟨Nat.le_of_ble_eq_true rfl, Nat.le_of_ble_eq_true rfl⟩) (mm_pV hKK (mm_rc hKK hT.2.1 mm_le.rf rfl)) rfl rfl hl.1 rfl (lv_room (Nat.le_of_ble_eq_true rfl)) dX8_parseNumber_52 ⟨Nat.le_of_ble_eq_true rfl, Nat.le_of_ble_eq_true rfl⟩) hS (mm_sS hS) (fun H_52 L_52 hB_52 hz_52 hq_52 hS => ?_)
      obtain ⟨I_52, hT, hx_52, hP⟩ := hB_52
      have hxi := hxi.tr (hx_52.mono (by decide))
      have hX : TX_ bt n I_52 F := ⟨(hx_52 13 (by decide)).trans hX.1, hX.2.1, hX.2.2⟩
      have hP : PS bt n (.error (1, tkS bt n p9)) I_52 := hP
      have hce_4 := hP.1
      refine lv_iload_n hx hb dX8_parseNumber_55 rfl (lv_at hl 0 rfl) ?_
      exact mm_iret (v := nI 0) hx hb hr hlk hS (Nat.le_of_ble_eq_true rfl) (Nat.le_of_ble_eq_true rfl) (⟨by rw [pN_1 c_6]; rfl, _, hT, hxi, by rw [pN_1 c_6]; exact hP⟩) dX8_parseNumber_56
    · exact absurd c_39 (by decide)
  · refine lv_iconst (v := nI 1) hx hb dX8_parseNumber_9 (by decide) ?_
    refine mm_top (y := mm_b true) rfl ?_
    refine lv_goto (tgt := 14) hx hb dX8_parseNumber_10 (by decide) ?_
    refine lv_iconst (v := nI 1) hx hb dX8_parseNumber_14 (by decide) ?_
    refine mm_rv (va_runV (As := [.int (mm_b true), .int (nI 1)]) (rest := []) ⟨hx, hb, hml, hown, hts⟩ (t_expect l hT hX hP (by decide) (by decide)) (cwV 2 hts (lw_V q2655 q2657 qs69 q164 q2658) rfl rfl rfl (by decide +kernel) ⟨Nat.le_of_ble_eq_true rfl, Nat.le_of_ble_eq_true rfl⟩) (mm_pV hKK (mm_rc hKK hT.2.1 mm_le.rf rfl)) rfl rfl hl.1 rfl (lv_room (Nat.le_of_ble_eq_true rfl)) dX8_parseNumber_15 ⟨Nat.le_of_ble_eq_true rfl, Nat.le_of_ble_eq_true rfl⟩) hS (mm_sS hS) (fun H_15 L_15 hB_15 hz_15 hq_15 hS => ?_)
    obtain ⟨I_15, hT, hx_15, hP⟩ := hB_15
    have hxi := hxi.tr (hx_15.mono (by decide))
    have hX : TX_ bt n I_15 F := ⟨(hx_15 13 (by decide)).trans hX.1, hX.2.1, hX.2.2⟩
    have hP : PS bt n (.ok p9) I_15 := hP
    have hbd_p9 := tk_bd (b := bt) (show p9 ≤ n from hP.1)
    refine lv_aload_n hx hb dX8_parseNumber_18 rfl (lv_at hl 0 rfl) ?_
    refine lv_aload_n hx hb dX8_parseNumber_19 rfl (lv_at hl 0 rfl) ?_
    refine tw_geti 19 (v := nI (tkN bt n p9)) hx hb hts hown hKK hT (by decide) rfl ((hP.2.2.2.2.2 c_6).trans (tkN_V c_6)) (hts _ q2517) dX8_parseNumber_20 ?_
    refine lv_i2l (v := (nI (tkN bt n p9)).toInt64) hx hb dX8_parseNumber_23 rfl ?_
    refine lv_iload_n hx hb dX8_parseNumber_24 rfl (lv_at hl 1 rfl) ?_
    refine lv_i2l (v := (nI 0).toInt64) hx hb dX8_parseNumber_25 rfl ?_
    refine lv_iload_n hx hb dX8_parseNumber_26 rfl (lv_at hl 2 rfl) ?_
    refine lv_i2l (v := (nI hi).toInt64) hx hb dX8_parseNumber_27 rfl ?_
    refine mm_rpu (va_runS (As := [.long ((nI (tkN bt n p9)).toInt64), .long ((nI 0).toInt64), .long ((nI hi).toInt64)]) (rest := [.ref x]) ⟨hx, hb, hml, hown, hts⟩ (t_isWithin l ) (va_cwS 3 hts (lw_S q2599 q2600 q164 q2601) rfl rfl rfl (by decide +kernel) ⟨Nat.le_of_ble_eq_true rfl, Nat.le_of_ble_eq_true rfl⟩) (mm_pS hKK) rfl rfl hl.1 rfl (lv_room (Nat.le_of_ble_eq_true rfl)) dX8_parseNumber_28 ⟨Nat.le_of_ble_eq_true rfl, Nat.le_of_ble_eq_true rfl⟩) hS (mm_s0 hS) (fun L_28 hS => ?_)
    refine mm_top (y := mm_b (decide (tkN bt n p9 ≤ hi))) (congrArg mm_b (w_N (tkN_le c_6) hh9)) ?_
    refine lv_iconst (v := nI 2) hx hb dX8_parseNumber_31 (by decide) ?_
    refine mm_rv (va_runV (As := [.int (mm_b (decide (tkN bt n p9 ≤ hi))), .int (nI 2)]) (rest := []) ⟨hx, hb, hml, hown, hts⟩ (t_expect l hT hX hP (by decide) (by decide)) (cwV 2 hts (lw_V q2655 q2657 qs69 q164 q2658) rfl rfl rfl (by decide +kernel) ⟨Nat.le_of_ble_eq_true rfl, Nat.le_of_ble_eq_true rfl⟩) (mm_pV hKK (mm_rc hKK hT.2.1 mm_le.rf rfl)) rfl rfl hl.1 rfl (lv_room (Nat.le_of_ble_eq_true rfl)) dX8_parseNumber_32 ⟨Nat.le_of_ble_eq_true rfl, Nat.le_of_ble_eq_true rfl⟩) hS (mm_sS hS) (fun H_32 L_32 hB_32 hz_32 hq_32 hS => ?_)
    obtain ⟨I_32, hT, hx_32, hP⟩ := hB_32
    have hxi := hxi.tr (hx_32.mono (by decide))
    have hX : TX_ bt n I_32 F := ⟨(hx_32 13 (by decide)).trans hX.1, hX.2.1, hX.2.2⟩
    rcases Bool.eq_false_or_eq_true (decide (tkN bt n p9 ≤ hi)) with hb_32 | hb_32
    · rw [hb_32] at hP
      have hP : PS bt n (.ok p9) I_32 := hP
      have hbd_p9 := tk_bd (b := bt) (show p9 ≤ n from hP.1)
      refine lv_aload_n hx hb dX8_parseNumber_35 rfl (lv_at hl 0 rfl) ?_
      refine tw_geti 20 (v := nI 0) hx hb hts hown hKK hT (by decide) rfl (hP.2.1) (hts _ q2518) dX8_parseNumber_36 ?_
      refine mm_if_ne (tgt := 49) (by omega) hx hb dX8_parseNumber_39 (by decide) (fun c_39 => ?_) (fun c_39 => ?_)
      · exact absurd c_39 (by decide)
      · refine lv_aload_n hx hb dX8_parseNumber_42 rfl (lv_at hl 0 rfl) ?_
        refine tw_geti 19 (v := nI (tkN bt n p9)) hx hb hts hown hKK hT (by decide) rfl ((hP.2.2.2.2.2 c_6).trans (tkN_V c_6)) (hts _ q2517) dX8_parseNumber_43 ?_
        refine lv_goto (tgt := 50) hx hb dX8_parseNumber_46 (by decide) ?_
        refine lv_istore_n (lv' := [(3, .int (nI (tkN bt n p9))), (0, .ref x), (1, .int (nI 0)), (2, .int (nI hi))]) hx hb dX8_parseNumber_50 rfl hl (by decide) rfl (fun ls hl => ?_)
        refine lv_aload_n hx hb dX8_parseNumber_51 rfl (lv_at hl 1 rfl) ?_
        refine mm_rv (va_runV (As := []) (rest := []) ⟨hx, hb, hml, hown, hts⟩ (t_advance l hT hX hP) (cwV 0 hts (lw_V q2618 q2620 qs64 q164 q2621) rfl rfl rfl (by decide +kernel) ⟨Nat.le_of_ble_eq_true rfl, Nat.le_of_ble_eq_true rfl⟩) (mm_pV hKK (mm_rc hKK hT.2.1 mm_le.rf rfl)) rfl rfl hl.1 rfl (lv_room (Nat.le_of_ble_eq_true rfl)) dX8_parseNumber_52 ⟨Nat.le_of_ble_eq_true rfl, Nat.le_of_ble_eq_true rfl⟩) hS (mm_sS hS) (fun H_52 L_52 hB_52 hz_52 hq_52 hS => ?_)
        obtain ⟨I_52, hT, hx_52, hP⟩ := hB_52
        have hxi := hxi.tr (hx_52.mono (by decide))
        have hX : TX_ bt n I_52 F := ⟨(hx_52 13 (by decide)).trans hX.1, hX.2.1, hX.2.2⟩
        have hP : PS bt n (.ok (tkE bt n p9)) I_52 := hP
        have hbd_tkE_bt_n_p9 := tk_bd (b := bt) (show tkE bt n p9 ≤ n from hP.1)
        refine lv_iload_n hx hb dX8_parseNumber_55 rfl (lv_at hl 0 rfl) ?_
        exact mm_iret (v := nI (tkN bt n p9)) hx hb hr hlk hS (Nat.le_of_ble_eq_true rfl) (Nat.le_of_ble_eq_true rfl) (⟨by rw [pN_2 c_6 (of_decide_eq_true hb_32)]; rfl, _, hT, hxi, by rw [pN_2 c_6 (of_decide_eq_true hb_32)]; exact hP⟩) dX8_parseNumber_56
    · rw [hb_32] at hP
      have hP : PS bt n (.error (2, tkS bt n p9)) I_32 := hP
      have hce_5 := hP.1
      refine lv_aload_n hx hb dX8_parseNumber_35 rfl (lv_at hl 0 rfl) ?_
      refine tw_geti 20 (v := nI 2) hx hb hts hown hKK hT (by decide) rfl (hP.2.1) (hts _ q2518) dX8_parseNumber_36 ?_
      refine mm_if_ne (tgt := 49) (by omega) hx hb dX8_parseNumber_39 (by decide) (fun c_39 => ?_) (fun c_39 => ?_)
      · refine lv_iload_n hx hb dX8_parseNumber_49 rfl (lv_at hl 1 rfl) ?_
        refine lv_istore_n (lv' := [(3, .int (nI 0)), (0, .ref x), (1, .int (nI 0)), (2, .int (nI hi))]) hx hb dX8_parseNumber_50 rfl hl (by decide) rfl (fun ls hl => ?_)
        refine lv_aload_n hx hb dX8_parseNumber_51 rfl (lv_at hl 1 rfl) ?_
        refine mm_rv (va_runV (As := []) (rest := []) ⟨hx, hb, hml, hown, hts⟩ (t_advance l hT hX hP) (cwV 0 hts (lw_V q2618 q2620 qs64 q164 q2621) rfl rfl rfl (by decide +kernel) ⟨Nat.le_of_ble_eq_true rfl, Nat.le_of_ble_eq_true rfl⟩) (mm_pV hKK (mm_rc hKK hT.2.1 mm_le.rf rfl)) rfl rfl hl.1 rfl (lv_room (Nat.le_of_ble_eq_true rfl)) dX8_parseNumber_52 ⟨Nat.le_of_ble_eq_true rfl, Nat.le_of_ble_eq_true rfl⟩) hS (mm_sS hS) (fun H_52 L_52 hB_52 hz_52 hq_52 hS => ?_)
        obtain ⟨I_52, hT, hx_52, hP⟩ := hB_52
        have hxi := hxi.tr (hx_52.mono (by decide))
        have hX : TX_ bt n I_52 F := ⟨(hx_52 13 (by decide)).trans hX.1, hX.2.1, hX.2.2⟩
        have hP : PS bt n (.error (2, tkS bt n p9)) I_52 := hP
        have hce_6 := hP.1
        refine lv_iload_n hx hb dX8_parseNumber_55 rfl (lv_at hl 0 rfl) ?_
        exact mm_iret (v := nI 0) hx hb hr hlk hS (Nat.le_of_ble_eq_true rfl) (Nat.le_of_ble_eq_true rfl) (⟨by rw [pN_3 c_6 (of_decide_eq_false hb_32)]; rfl, _, hT, hxi, by rw [pN_3 c_6 (of_decide_eq_false hb_32)]; exact hP⟩) dX8_parseNumber_56
      · exact absurd c_39 (by decide)
set_option maxRecDepth 100000 in
theorem t_parseNumberer (l : Launch) {G : mm_G} {P : mm_H} {H : Heap} {x : Nat} {ad : Nat → Nat} {I : Nat → Int32} {F : Nat → Nat → Int32} {bt : Nat → Int32} {n : Nat} {c9 o9 : Nat} {hi : Nat} (hT : TW G x ad I F H) (hX : TX_ bt n I F) (hP : PS bt n (.error (c9, o9)) I) (hh9 : hi ≤ 999) : Mt l yX8_parseNumber (ws_ yX8_parseNumber cX8_parseNumber 4 (some .int)) 8 260 0 0 G P [.ref x, .int (nI 0), .int (nI hi)] H (tw_M x ad) (mm_i (nI (p_vN (p_num bt n (.error (c9, o9)) hi))) (fun H2 => ∃ I2, TW G x ad I2 F H2 ∧ exI [16, 17, 18, 19, 20, 21] I I2 ∧ PS bt n (p_pos (p_num bt n (.error (c9, o9)) hi)) I2)) := by
  refine Mt.of (by decide) (Nat.le_of_ble_eq_true rfl) (fun p e s m below meth c ls hx hb hr hlk hml hown hnm hts hKK hsH hl hS => ?_)
  have hl : lv_has ls 4 [(0, .ref x), (1, .int (nI 0)), (2, .int (nI hi))] := hl
  have hMx : mm_A (tw_M x ad) H x := Or.inl (Or.inl rfl)
  have hMa : ∀ j, tw_isA j = true → mm_A (tw_M x ad) H (ad j) := fun j hj => Or.inl (Or.inr ⟨j, hj, rfl⟩)
  have hxi : exI [16, 17, 18, 19, 20, 21] I I := exI.rf
  have hn6 := hX.2.1
  have hce_7 := hP.1
  refine lv_aload_n hx hb dX8_parseNumber_0 rfl (lv_at hl 0 rfl) ?_
  refine lv_aload_n hx hb dX8_parseNumber_1 rfl (lv_at hl 0 rfl) ?_
  refine tw_geti 18 (v := I 18) hx hb hts hown hKK hT (by decide) rfl (rfl) (hts _ q2516) dX8_parseNumber_2 ?_
  refine lv_iconst (v := nI 2) hx hb dX8_parseNumber_5 (by decide) ?_
  refine lv_icmp_ne (tgt := 13) hx hb dX8_parseNumber_6 (by decide) (fun c_6 => ?_) (fun c_6 => ?_)
  · refine lv_iconst (v := nI 0) hx hb dX8_parseNumber_13 (by decide) ?_
    refine mm_top (y := mm_b false) rfl ?_
    refine lv_iconst (v := nI 1) hx hb dX8_parseNumber_14 (by decide) ?_
    refine mm_rv (va_runV (As := [.int (mm_b false), .int (nI 1)]) (rest := []) ⟨hx, hb, hml, hown, hts⟩ (t_expect l hT hX hP (by decide) (by decide)) (cwV 2 hts (lw_V q2655 q2657 qs69 q164 q2658) rfl rfl rfl (by decide +kernel) ⟨Nat.le_of_ble_eq_true rfl, Nat.le_of_ble_eq_true rfl⟩) (mm_pV hKK (mm_rc hKK hT.2.1 mm_le.rf rfl)) rfl rfl hl.1 rfl (lv_room (Nat.le_of_ble_eq_true rfl)) dX8_parseNumber_15 ⟨Nat.le_of_ble_eq_true rfl, Nat.le_of_ble_eq_true rfl⟩) hS (mm_sS hS) (fun H_15 L_15 hB_15 hz_15 hq_15 hS => ?_)
    obtain ⟨I_15, hT, hx_15, hP⟩ := hB_15
    have hxi := hxi.tr (hx_15.mono (by decide))
    have hX : TX_ bt n I_15 F := ⟨(hx_15 13 (by decide)).trans hX.1, hX.2.1, hX.2.2⟩
    have hP : PS bt n (.error (c9, o9)) I_15 := hP
    have hce_8 := hP.1
    refine lv_aload_n hx hb dX8_parseNumber_18 rfl (lv_at hl 0 rfl) ?_
    refine lv_aload_n hx hb dX8_parseNumber_19 rfl (lv_at hl 0 rfl) ?_
    refine tw_geti 19 (v := I_15 19) hx hb hts hown hKK hT (by decide) rfl (rfl) (hts _ q2517) dX8_parseNumber_20 ?_
    refine lv_i2l (v := (I_15 19).toInt64) hx hb dX8_parseNumber_23 rfl ?_
    refine lv_iload_n hx hb dX8_parseNumber_24 rfl (lv_at hl 1 rfl) ?_
    refine lv_i2l (v := (nI 0).toInt64) hx hb dX8_parseNumber_25 rfl ?_
    refine lv_iload_n hx hb dX8_parseNumber_26 rfl (lv_at hl 2 rfl) ?_
    refine lv_i2l (v := (nI hi).toInt64) hx hb dX8_parseNumber_27 rfl ?_
    refine mm_rpu (va_runS (As := [.long ((I_15 19).toInt64), .long ((nI 0).toInt64), .long ((nI hi).toInt64)]) (rest := [.ref x]) ⟨hx, hb, hml, hown, hts⟩ (t_isWithin l ) (va_cwS 3 hts (lw_S q2599 q2600 q164 q2601) rfl rfl rfl (by decide +kernel) ⟨Nat.le_of_ble_eq_true rfl, Nat.le_of_ble_eq_true rfl⟩) (mm_pS hKK) rfl rfl hl.1 rfl (lv_room (Nat.le_of_ble_eq_true rfl)) dX8_parseNumber_28 ⟨Nat.le_of_ble_eq_true rfl, Nat.le_of_ble_eq_true rfl⟩) hS (mm_s0 hS) (fun L_28 hS => ?_)
    refine lv_iconst (v := nI 2) hx hb dX8_parseNumber_31 (by decide) ?_
    refine mm_rv (va_runV (As := [.int (mm_b (decide ((nI 0).toInt64 ≤ (I_15 19).toInt64 ∧ (I_15 19).toInt64 ≤ (nI hi).toInt64))), .int (nI 2)]) (rest := []) ⟨hx, hb, hml, hown, hts⟩ (t_expect l hT hX hP (by decide) (by decide)) (cwV 2 hts (lw_V q2655 q2657 qs69 q164 q2658) rfl rfl rfl (by decide +kernel) ⟨Nat.le_of_ble_eq_true rfl, Nat.le_of_ble_eq_true rfl⟩) (mm_pV hKK (mm_rc hKK hT.2.1 mm_le.rf rfl)) rfl rfl hl.1 rfl (lv_room (Nat.le_of_ble_eq_true rfl)) dX8_parseNumber_32 ⟨Nat.le_of_ble_eq_true rfl, Nat.le_of_ble_eq_true rfl⟩) hS (mm_sS hS) (fun H_32 L_32 hB_32 hz_32 hq_32 hS => ?_)
    obtain ⟨I_32, hT, hx_32, hP⟩ := hB_32
    have hxi := hxi.tr (hx_32.mono (by decide))
    have hX : TX_ bt n I_32 F := ⟨(hx_32 13 (by decide)).trans hX.1, hX.2.1, hX.2.2⟩
    have hP : PS bt n (.error (c9, o9)) I_32 := hP
    have hce_9 := hP.1
    refine lv_aload_n hx hb dX8_parseNumber_35 rfl (lv_at hl 0 rfl) ?_
    refine tw_geti 20 (v := nI c9) hx hb hts hown hKK hT (by decide) rfl (hP.2.1) (hts _ q2518) dX8_parseNumber_36 ?_
    refine mm_if_ne (tgt := 49) (by omega) hx hb dX8_parseNumber_39 (by decide) (fun c_39 => ?_) (fun c_39 => ?_)
    · refine lv_iload_n hx hb dX8_parseNumber_49 rfl (lv_at hl 1 rfl) ?_
      refine lv_istore_n (lv' := [(3, .int (nI 0)), (0, .ref x), (1, .int (nI 0)), (2, .int (nI hi))]) hx hb dX8_parseNumber_50 rfl hl (by decide) rfl (fun ls hl => ?_)
      refine lv_aload_n hx hb dX8_parseNumber_51 rfl (lv_at hl 1 rfl) ?_
      refine mm_rv (va_runV (As := []) (rest := []) ⟨hx, hb, hml, hown, hts⟩ (t_advance l hT hX hP) (cwV 0 hts (lw_V q2618 q2620 qs64 q164 q2621) rfl rfl rfl (by decide +kernel) ⟨Nat.le_of_ble_eq_true rfl, Nat.le_of_ble_eq_true rfl⟩) (mm_pV hKK (mm_rc hKK hT.2.1 mm_le.rf rfl)) rfl rfl hl.1 rfl (lv_room (Nat.le_of_ble_eq_true rfl)) dX8_parseNumber_52 ⟨Nat.le_of_ble_eq_true rfl, Nat.le_of_ble_eq_true rfl⟩) hS (mm_sS hS) (fun H_52 L_52 hB_52 hz_52 hq_52 hS => ?_)
      obtain ⟨I_52, hT, hx_52, hP⟩ := hB_52
      have hxi := hxi.tr (hx_52.mono (by decide))
      have hX : TX_ bt n I_52 F := ⟨(hx_52 13 (by decide)).trans hX.1, hX.2.1, hX.2.2⟩
      have hP : PS bt n (.error (c9, o9)) I_52 := hP
      have hce_10 := hP.1
      refine lv_iload_n hx hb dX8_parseNumber_55 rfl (lv_at hl 0 rfl) ?_
      exact mm_iret (v := nI 0) hx hb hr hlk hS (Nat.le_of_ble_eq_true rfl) (Nat.le_of_ble_eq_true rfl) (⟨rfl, _, hT, hxi, hP⟩) dX8_parseNumber_56
    · exact absurd c_39 (by omega)
  · refine lv_iconst (v := nI 1) hx hb dX8_parseNumber_9 (by decide) ?_
    refine mm_top (y := mm_b true) rfl ?_
    refine lv_goto (tgt := 14) hx hb dX8_parseNumber_10 (by decide) ?_
    refine lv_iconst (v := nI 1) hx hb dX8_parseNumber_14 (by decide) ?_
    refine mm_rv (va_runV (As := [.int (mm_b true), .int (nI 1)]) (rest := []) ⟨hx, hb, hml, hown, hts⟩ (t_expect l hT hX hP (by decide) (by decide)) (cwV 2 hts (lw_V q2655 q2657 qs69 q164 q2658) rfl rfl rfl (by decide +kernel) ⟨Nat.le_of_ble_eq_true rfl, Nat.le_of_ble_eq_true rfl⟩) (mm_pV hKK (mm_rc hKK hT.2.1 mm_le.rf rfl)) rfl rfl hl.1 rfl (lv_room (Nat.le_of_ble_eq_true rfl)) dX8_parseNumber_15 ⟨Nat.le_of_ble_eq_true rfl, Nat.le_of_ble_eq_true rfl⟩) hS (mm_sS hS) (fun H_15 L_15 hB_15 hz_15 hq_15 hS => ?_)
    obtain ⟨I_15, hT, hx_15, hP⟩ := hB_15
    have hxi := hxi.tr (hx_15.mono (by decide))
    have hX : TX_ bt n I_15 F := ⟨(hx_15 13 (by decide)).trans hX.1, hX.2.1, hX.2.2⟩
    have hP : PS bt n (.error (c9, o9)) I_15 := hP
    have hce_11 := hP.1
    refine lv_aload_n hx hb dX8_parseNumber_18 rfl (lv_at hl 0 rfl) ?_
    refine lv_aload_n hx hb dX8_parseNumber_19 rfl (lv_at hl 0 rfl) ?_
    refine tw_geti 19 (v := I_15 19) hx hb hts hown hKK hT (by decide) rfl (rfl) (hts _ q2517) dX8_parseNumber_20 ?_
    refine lv_i2l (v := (I_15 19).toInt64) hx hb dX8_parseNumber_23 rfl ?_
    refine lv_iload_n hx hb dX8_parseNumber_24 rfl (lv_at hl 1 rfl) ?_
    refine lv_i2l (v := (nI 0).toInt64) hx hb dX8_parseNumber_25 rfl ?_
    refine lv_iload_n hx hb dX8_parseNumber_26 rfl (lv_at hl 2 rfl) ?_
    refine lv_i2l (v := (nI hi).toInt64) hx hb dX8_parseNumber_27 rfl ?_
    refine mm_rpu (va_runS (As := [.long ((I_15 19).toInt64), .long ((nI 0).toInt64), .long ((nI hi).toInt64)]) (rest := [.ref x]) ⟨hx, hb, hml, hown, hts⟩ (t_isWithin l ) (va_cwS 3 hts (lw_S q2599 q2600 q164 q2601) rfl rfl rfl (by decide +kernel) ⟨Nat.le_of_ble_eq_true rfl, Nat.le_of_ble_eq_true rfl⟩) (mm_pS hKK) rfl rfl hl.1 rfl (lv_room (Nat.le_of_ble_eq_true rfl)) dX8_parseNumber_28 ⟨Nat.le_of_ble_eq_true rfl, Nat.le_of_ble_eq_true rfl⟩) hS (mm_s0 hS) (fun L_28 hS => ?_)
    refine lv_iconst (v := nI 2) hx hb dX8_parseNumber_31 (by decide) ?_
    refine mm_rv (va_runV (As := [.int (mm_b (decide ((nI 0).toInt64 ≤ (I_15 19).toInt64 ∧ (I_15 19).toInt64 ≤ (nI hi).toInt64))), .int (nI 2)]) (rest := []) ⟨hx, hb, hml, hown, hts⟩ (t_expect l hT hX hP (by decide) (by decide)) (cwV 2 hts (lw_V q2655 q2657 qs69 q164 q2658) rfl rfl rfl (by decide +kernel) ⟨Nat.le_of_ble_eq_true rfl, Nat.le_of_ble_eq_true rfl⟩) (mm_pV hKK (mm_rc hKK hT.2.1 mm_le.rf rfl)) rfl rfl hl.1 rfl (lv_room (Nat.le_of_ble_eq_true rfl)) dX8_parseNumber_32 ⟨Nat.le_of_ble_eq_true rfl, Nat.le_of_ble_eq_true rfl⟩) hS (mm_sS hS) (fun H_32 L_32 hB_32 hz_32 hq_32 hS => ?_)
    obtain ⟨I_32, hT, hx_32, hP⟩ := hB_32
    have hxi := hxi.tr (hx_32.mono (by decide))
    have hX : TX_ bt n I_32 F := ⟨(hx_32 13 (by decide)).trans hX.1, hX.2.1, hX.2.2⟩
    have hP : PS bt n (.error (c9, o9)) I_32 := hP
    have hce_12 := hP.1
    refine lv_aload_n hx hb dX8_parseNumber_35 rfl (lv_at hl 0 rfl) ?_
    refine tw_geti 20 (v := nI c9) hx hb hts hown hKK hT (by decide) rfl (hP.2.1) (hts _ q2518) dX8_parseNumber_36 ?_
    refine mm_if_ne (tgt := 49) (by omega) hx hb dX8_parseNumber_39 (by decide) (fun c_39 => ?_) (fun c_39 => ?_)
    · refine lv_iload_n hx hb dX8_parseNumber_49 rfl (lv_at hl 1 rfl) ?_
      refine lv_istore_n (lv' := [(3, .int (nI 0)), (0, .ref x), (1, .int (nI 0)), (2, .int (nI hi))]) hx hb dX8_parseNumber_50 rfl hl (by decide) rfl (fun ls hl => ?_)
      refine lv_aload_n hx hb dX8_parseNumber_51 rfl (lv_at hl 1 rfl) ?_
      refine mm_rv (va_runV (As := []) (rest := []) ⟨hx, hb, hml, hown, hts⟩ (t_advance l hT hX hP) (cwV 0 hts (lw_V q2618 q2620 qs64 q164 q2621) rfl rfl rfl (by decide +kernel) ⟨Nat.le_of_ble_eq_true rfl, Nat.le_of_ble_eq_true rfl⟩) (mm_pV hKK (mm_rc hKK hT.2.1 mm_le.rf rfl)) rfl rfl hl.1 rfl (lv_room (Nat.le_of_ble_eq_true rfl)) dX8_parseNumber_52 ⟨Nat.le_of_ble_eq_true rfl, Nat.le_of_ble_eq_true rfl⟩) hS (mm_sS hS) (fun H_52 L_52 hB_52 hz_52 hq_52 hS => ?_)
      obtain ⟨I_52, hT, hx_52, hP⟩ := hB_52
      have hxi := hxi.tr (hx_52.mono (by decide))
      have hX : TX_ bt n I_52 F := ⟨(hx_52 13 (by decide)).trans hX.1, hX.2.1, hX.2.2⟩
      have hP : PS bt n (.error (c9, o9)) I_52 := hP
      have hce_13 := hP.1
      refine lv_iload_n hx hb dX8_parseNumber_55 rfl (lv_at hl 0 rfl) ?_
      exact mm_iret (v := nI 0) hx hb hr hlk hS (Nat.le_of_ble_eq_true rfl) (Nat.le_of_ble_eq_true rfl) (⟨rfl, _, hT, hxi, hP⟩) dX8_parseNumber_56
    · exact absurd c_39 (by omega)
theorem t_parseNumber (l : Launch) {G : mm_G} {P : mm_H} {H : Heap} {x : Nat} {ad : Nat → Nat} {I : Nat → Int32} {F : Nat → Nat → Int32} {bt : Nat → Int32} {n : Nat} {r : pR Nat} {hi : Nat} (hT : TW G x ad I F H) (hX : TX_ bt n I F) (hP : PS bt n (r) I) (hh9 : hi ≤ 999) : Mt l yX8_parseNumber (ws_ yX8_parseNumber cX8_parseNumber 4 (some .int)) 8 260 0 0 G P [.ref x, .int (nI 0), .int (nI hi)] H (tw_M x ad) (mm_i (nI (p_vN (p_num bt n r hi))) (fun H2 => ∃ I2, TW G x ad I2 F H2 ∧ exI [16, 17, 18, 19, 20, 21] I I2 ∧ PS bt n (p_pos (p_num bt n r hi)) I2)) := by
  cases r with
  | ok p => exact t_parseNumberok l hT hX hP hh9
  | error e => exact t_parseNumberer l hT hX hP hh9
