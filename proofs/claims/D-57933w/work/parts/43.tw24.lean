/-! the twin: a setup loaded (printed by tools/tw24.py) -/
theorem exI_cg {I I2 : Nat → Int32} (h : exI [13, 14, 15] I I2) : ∀ j, 16 ≤ j → j ≤ 21 → I2 j = I j := fun j h1 _ => h j (fun z => by
  rcases List.mem_cons.mp z with q | q
  · omega
  · rcases List.mem_cons.mp q with q | q
    · omega
    · have := List.mem_singleton.mp q; omega)
/-- what loading a setup leaves -/
def LSr (r : pR (Nat × (Nat → Int32))) (I I2 : Nat → Int32) (F F2 : Nat → Nat → Int32) : Prop := (I2 6 = nI 0 ∧ I2 13 = nI 0) ∧ match r with
  | .error (c, o) => I2 14 = nI c ∧ I2 15 = nI o ∧ exI [6, 9, 13, 14, 15, 16, 17, 18, 19, 20, 21] I I2 ∧ eqx [8] F F2
  | .ok (c, g) => I2 14 = nI 0 ∧ I2 15 = -1 ∧ I2 4 = nI 0 ∧ I2 5 = nI 0 ∧ exI [4, 5, 6, 9, 13, 14, 15, 16, 17, 18, 19, 20, 21] I I2 ∧ eqx [0, 7, 8, 10] F F2 ∧ c ≤ 64 ∧ TR (F2 0) (begS c g)
def lsV (r : pR (Nat × (Nat → Int32))) : Int32 := match r with
  | .error _ => -1
  | .ok (c, _) => nI c
set_option maxRecDepth 100000 in
theorem tm_loadSetup (l : Launch) {G : mm_G} {P : mm_H} {H : Heap} {x : Nat} {ad : Nat → Nat} {I : Nat → Int32} {F : Nat → Nat → Int32} {bt : Nat → Int32} {n : Nat} (hT : TW G x ad I F H) (hX : TX_ bt n I F) (hF : mm_le P (mm_h H)) (hMP : ∀ q, tw_M x ad q → P q = none) : Mt l yX8_loadSetup (ws_ yX8_loadSetup cX8_loadSetup 1 (some .int)) 16 900 0 0 G P [.ref x] H (tw_M x ad) (mm_i (lsV (pSetup bt n)) (fun H2 => ∃ I2 F2, TW G x ad I2 F2 H2 ∧ LSr (pSetup bt n) I I2 F F2)) := by
  refine Mt.of (by decide) (Nat.le_of_ble_eq_true rfl) (fun p e s m below meth c ls hx hb hr hlk hml hown hnm hts hKK hsH hl hS => ?_)
  have hl : lv_has ls 1 [(0, .ref x)] := hl
  have hMx : mm_A (tw_M x ad) H x := Or.inl (Or.inl rfl)
  have hMa : ∀ j, tw_isA j = true → mm_A (tw_M x ad) H (ad j) := fun j hj => Or.inl (Or.inr ⟨j, hj, rfl⟩)
  have hxi : exI [6, 9, 13, 14, 15, 16, 17, 18, 19, 20, 21] I I := exI.rf
  have hn6 := hX.2.1
  refine lv_aload_n hx hb dX8_loadSetup_0 rfl (lv_at hl 0 rfl) ?_
  refine lv_iconst (v := nI 0) hx hb dX8_loadSetup_1 (by decide) ?_
  refine tw_put 6 hx hb hts hown hKK hT hS (hMx) (by decide) rfl (by decide) ⟨rfl, rfl⟩ (hts _ q2504) dX8_loadSetup_2 (fun H_2 L_2 hT hz_2 hq_2 hS => ?_)
  have hX : TX_ bt n ((upd I 6 (nI 0))) F := ⟨(tw_un (by decide)).trans hX.1, hX.2⟩
  have hxi : exI [6, 9, 13, 14, 15, 16, 17, 18, 19, 20, 21] I ((upd I 6 (nI 0))) := hxi.tr (exI.u (by decide))
  have hF := hF.put hq_2 (hMP x (.inl rfl))
  have hk6 : ((upd I 6 (nI 0))) 6 = nI 0 := tw_up _ _ _
  refine lv_aload_n hx hb dX8_loadSetup_5 rfl (lv_at hl 0 rfl) ?_
  refine lv_iconst (v := nI 0) hx hb dX8_loadSetup_6 (by decide) ?_
  refine tw_put 9 hx hb hts hown hKK hT hS (hMx) (by decide) rfl (by decide) ⟨rfl, rfl⟩ (hts _ q2507) dX8_loadSetup_7 (fun H_7 L_7 hT hz_7 hq_7 hS => ?_)
  have hX : TX_ bt n ((upd (upd I 6 (nI 0)) 9 (nI 0))) F := ⟨(tw_un (by decide)).trans hX.1, hX.2⟩
  have hxi : exI [6, 9, 13, 14, 15, 16, 17, 18, 19, 20, 21] I ((upd (upd I 6 (nI 0)) 9 (nI 0))) := hxi.tr (exI.u (by decide))
  have hF := hF.put hq_7 (hMP x (.inl rfl))
  have hk6 : ((upd (upd I 6 (nI 0)) 9 (nI 0))) 6 = nI 0 := (tw_un (by decide)).trans hk6
  have hk9 : ((upd (upd I 6 (nI 0)) 9 (nI 0))) 9 = nI 0 := tw_up _ _ _
  refine lv_aload_n hx hb dX8_loadSetup_10 rfl (lv_at hl 0 rfl) ?_
  refine mm_rv (va_runV (As := []) (rest := []) ⟨hx, hb, hml, hown, hts⟩ (t_beginText l hT hX) (cwV 0 hts (lw_V q2614 q2616 qs63 q164 q2617) rfl rfl rfl (by decide +kernel) ⟨Nat.le_of_ble_eq_true rfl, Nat.le_of_ble_eq_true rfl⟩) (mm_pV hKK (mm_rc hKK hT.2.1 mm_le.rf rfl)) rfl rfl hl.1 rfl (lv_room (Nat.le_of_ble_eq_true rfl)) dX8_loadSetup_11 ⟨Nat.le_of_ble_eq_true rfl, Nat.le_of_ble_eq_true rfl⟩) hS (mm_sS hS) (fun H_11 L_11 hB_11 hz_11 hq_11 hS => ?_)
  obtain ⟨I_11, hT, hx_11, hP⟩ := hB_11
  have hxi := hxi.tr (hx_11.mono (by decide))
  have hX : TX_ bt n I_11 F := ⟨(hx_11 13 (by decide)).trans hX.1, hX.2.1, hX.2.2⟩
  have hF := hF.keep hq_11 hMP
  have hk6 := (hx_11 6 (by decide)).trans hk6
  have hk9 := (hx_11 9 (by decide)).trans hk9
  have hbd_0 := tk_bd (b := bt) (show 0 ≤ n from hP.1)
  have lp_14 : ∀ (fu : Nat) (p1 : Nat) (c1 : Nat) (g1 : Nat → Int32) (f1 : Nat) (H1 : Heap) (I1 : Nat → Int32) (F1 : Nat → Nat → Int32) (L : List Loc) (ls : Array Slot), f1 < fu → (c1 ≤ 64) → (pSe bt n f1 p1 c1 g1 = pSetup bt n) → (n < p1 + f1) → (p1 ≤ n) → lv_has ls 1 [(0, .ref x)] → (TW G x ad I1 F1 H1) → (TX_ bt n I1 F1) → (PS bt n (.ok p1) I1) → (exI [6, 9, 13, 14, 15, 16, 17, 18, 19, 20, 21] I I1) → (mm_le P (mm_h H1)) → (I1 9 = nI c1) → (I1 6 = nI 0) → (eqx [8] F F1) → (∀ i, i < c1 → F1 8 i = g1 i) → va_S (mm_A (tw_M x ad) H) H H1 L → W p l e (mm_rm 16 900 0 0) s m ([.ref x] : List Value).toArray below meth c H1 L 0 0 (MQ below (mm_Qc H (tw_M x ad) (mm_i (lsV (pSetup bt n)) (fun H2 => ∃ I2 F2, TW G x ad I2 F2 H2 ∧ LSr (pSetup bt n) I I2 F F2))) ([.ref x] : List Value).toArray s 0 0 (mm_A (tw_M x ad) H)) (F0 m 14 ls []) := by
    intro fu; induction fu with
    | zero => intro p1 c1 g1 f1 H1 I1 F1 L ls hfu; exact absurd hfu (Nat.not_lt_zero _)
    | succ fu ih =>
      intro p1 c1 g1 f1 H1 I1 F1 L ls hfu hc1 hL1 hf1 hpn hl hT hX hP hxi hF hk9 hk6 he hg hS
      have ih_14 := ih
      have hbd_p1 := tk_bd (b := bt) (show p1 ≤ n from hP.1)
      refine lv_aload_n hx hb dX8_loadSetup_14 rfl (lv_at hl 0 rfl) ?_
      refine tw_geti 20 (v := nI 0) hx hb hts hown hKK hT (by decide) rfl (hP.2.1) (hts _ q2518) dX8_loadSetup_15 ?_
      refine mm_if_ne (tgt := 35) (by omega) hx hb dX8_loadSetup_18 (by decide) (fun c_18 => ?_) (fun c_18 => ?_)
      · exact absurd c_18 (by decide)
      · refine lv_aload_n hx hb dX8_loadSetup_21 rfl (lv_at hl 0 rfl) ?_
        refine tw_geti 18 (v := nI (tkK bt n p1)) hx hb hts hown hKK hT (by decide) rfl (hP.2.2.2.2.1) (hts _ q2516) dX8_loadSetup_22 ?_
        refine mm_if_eq (tgt := 35) (by omega) hx hb dX8_loadSetup_25 (by decide) (fun c_25 => ?_) (fun c_25 => ?_)
        · refine lv_aload_n hx hb dX8_loadSetup_35 rfl (lv_at hl 0 rfl) ?_
          refine mm_rv (va_runV (As := []) (rest := []) ⟨hx, hb, hml, hown, hts⟩ (t_endText l (c9 := 0) (o9 := 0) hT hP.2.1 (by decide) (fun z => absurd rfl z)) (cwV 0 hts (lw_V q2672 q2674 qs73 q164 q2675) rfl rfl rfl (by decide +kernel) ⟨Nat.le_of_ble_eq_true rfl, Nat.le_of_ble_eq_true rfl⟩) (mm_pV hKK (mm_rc hKK hT.2.1 mm_le.rf rfl)) rfl rfl hl.1 rfl (lv_room (Nat.le_of_ble_eq_true rfl)) dX8_loadSetup_36 ⟨Nat.le_of_ble_eq_true rfl, Nat.le_of_ble_eq_true rfl⟩) hS (mm_sS hS) (fun H_36 L_36 hB_36 hz_36 hq_36 hS => ?_)
          obtain ⟨I_36, hT, hx_36, hk13, hk14, hk15⟩ := hB_36
          have hxi := hxi.tr (hx_36.mono (by decide))
          have hF := hF.keep hq_36 hMP
          have hk9 := (hx_36 9 (by decide)).trans hk9
          have hk6 := (hx_36 6 (by decide)).trans hk6
          have hP : PS bt n (.ok p1) I_36 := hP.cg (exI_cg hx_36)
          have hbd_p1 := tk_bd (b := bt) (show p1 ≤ n from hP.1)
          refine lv_aload_n hx hb dX8_loadSetup_39 rfl (lv_at hl 0 rfl) ?_
          refine tw_geti 20 (v := nI 0) hx hb hts hown hKK hT (by decide) rfl (hP.2.1) (hts _ q2518) dX8_loadSetup_40 ?_
          refine mm_if_le (tgt := 48) (by omega) hx hb dX8_loadSetup_43 (by decide) (fun c_43 => ?_) (fun c_43 => ?_)
          · have hxi : exI [4, 5, 6, 9, 13, 14, 15, 16, 17, 18, 19, 20, 21] I I_36 := hxi.mono (by decide)
            refine lv_aload_n hx hb dX8_loadSetup_48 rfl (lv_at hl 0 rfl) ?_
            refine mm_rv (va_runV (As := []) (rest := []) ⟨hx, hb, hml, hown, hts⟩ (t_begin l (ev := g1) hT hk9 hc1 hg) (cwV 0 hts (lw_V q2447 q2449 qs54 q164 q2450) rfl rfl rfl (by decide +kernel) ⟨Nat.le_of_ble_eq_true rfl, Nat.le_of_ble_eq_true rfl⟩) (mm_pV hKK (mm_rc hKK hT.2.1 mm_le.rf rfl)) rfl rfl hl.1 rfl (lv_room (Nat.le_of_ble_eq_true rfl)) dX8_loadSetup_49 ⟨Nat.le_of_ble_eq_true rfl, Nat.le_of_ble_eq_true rfl⟩) hS (mm_sS hS) (fun H_49 L_49 hB_49 hz_49 hq_49 hS => ?_)
            obtain ⟨F_49, hT, he_49, hR⟩ := hB_49
            refine lv_aload_n hx hb dX8_loadSetup_52 rfl (lv_at hl 0 rfl) ?_
            refine lv_iconst (v := nI 0) hx hb dX8_loadSetup_53 (by decide) ?_
            refine tw_put 4 hx hb hts hown hKK hT hS (hMx) (by decide) rfl (by decide) ⟨rfl, rfl⟩ (hts _ q2502) dX8_loadSetup_54 (fun H_54 L_54 hT hz_54 hq_54 hS => ?_)
            have hxi : exI [4, 5, 6, 9, 13, 14, 15, 16, 17, 18, 19, 20, 21] I ((upd I_36 4 (nI 0))) := hxi.tr (exI.u (by decide))
            have hP : PS bt n (.ok p1) ((upd I_36 4 (nI 0))) := hP.cg (fun j h1 h2 => tw_un (by omega))
            have hk9 : ((upd I_36 4 (nI 0))) 9 = nI c1 := (tw_un (by decide)).trans hk9
            have hk6 : ((upd I_36 4 (nI 0))) 6 = nI 0 := (tw_un (by decide)).trans hk6
            have hk13 : ((upd I_36 4 (nI 0))) 13 = nI 0 := (tw_un (by decide)).trans hk13
            have hk14 : ((upd I_36 4 (nI 0))) 14 = nI 0 := (tw_un (by decide)).trans hk14
            have hk15 : ((upd I_36 4 (nI 0))) 15 = if 0 = 0 then -1 else nI 0 := (tw_un (by decide)).trans hk15
            have hk4 : ((upd I_36 4 (nI 0))) 4 = nI 0 := tw_up _ _ _
            refine lv_aload_n hx hb dX8_loadSetup_57 rfl (lv_at hl 0 rfl) ?_
            refine lv_iconst (v := nI 0) hx hb dX8_loadSetup_58 (by decide) ?_
            refine tw_put 5 hx hb hts hown hKK hT hS (hMx) (by decide) rfl (by decide) ⟨rfl, rfl⟩ (hts _ q2503) dX8_loadSetup_59 (fun H_59 L_59 hT hz_59 hq_59 hS => ?_)
            have hxi : exI [4, 5, 6, 9, 13, 14, 15, 16, 17, 18, 19, 20, 21] I ((upd (upd I_36 4 (nI 0)) 5 (nI 0))) := hxi.tr (exI.u (by decide))
            have hP : PS bt n (.ok p1) ((upd (upd I_36 4 (nI 0)) 5 (nI 0))) := hP.cg (fun j h1 h2 => tw_un (by omega))
            have hk9 : ((upd (upd I_36 4 (nI 0)) 5 (nI 0))) 9 = nI c1 := (tw_un (by decide)).trans hk9
            have hk6 : ((upd (upd I_36 4 (nI 0)) 5 (nI 0))) 6 = nI 0 := (tw_un (by decide)).trans hk6
            have hk13 : ((upd (upd I_36 4 (nI 0)) 5 (nI 0))) 13 = nI 0 := (tw_un (by decide)).trans hk13
            have hk14 : ((upd (upd I_36 4 (nI 0)) 5 (nI 0))) 14 = nI 0 := (tw_un (by decide)).trans hk14
            have hk15 : ((upd (upd I_36 4 (nI 0)) 5 (nI 0))) 15 = if 0 = 0 then -1 else nI 0 := (tw_un (by decide)).trans hk15
            have hk4 : ((upd (upd I_36 4 (nI 0)) 5 (nI 0))) 4 = nI 0 := (tw_un (by decide)).trans hk4
            have hk5 : ((upd (upd I_36 4 (nI 0)) 5 (nI 0))) 5 = nI 0 := tw_up _ _ _
            refine lv_aload_n hx hb dX8_loadSetup_62 rfl (lv_at hl 0 rfl) ?_
            refine tw_geti 9 (v := nI c1) hx hb hts hown hKK hT (by decide) rfl (hk9) (hts _ q2507) dX8_loadSetup_63 ?_
            exact mm_iret (v := nI c1) hx hb hr hlk hS (Nat.le_of_ble_eq_true rfl) (Nat.le_of_ble_eq_true rfl) (⟨by rw [(hL1.symm.trans (pSe_0 (by omega) c_25))]; rfl, _, F_49, hT, by rw [(hL1.symm.trans (pSe_0 (by omega) c_25))]; exact ⟨⟨hk6, hk13⟩, hk14, hk15.trans (if_pos rfl), hk4, hk5, hxi, (he.mono (by decide)).tr (he_49.mono (by decide)), hc1, hR⟩⟩) dX8_loadSetup_66
          · exact absurd c_43 (by decide)
        · refine lv_aload_n hx hb dX8_loadSetup_28 rfl (lv_at hl 0 rfl) ?_
          refine mm_rv (va_runV (As := []) (rest := []) ⟨hx, hb, hml, hown, hts⟩ (t_parseList l (k9 := c1) (g9 := g1) hT hX hP hF hMP hk9 hc1 hg) (cwV 0 hts (lw_V q2634 q2636 qs67 q164 q2637) rfl rfl rfl (by decide +kernel) ⟨Nat.le_of_ble_eq_true rfl, Nat.le_of_ble_eq_true rfl⟩) (mm_pV hKK (mm_rc hKK hT.2.1 mm_le.rf rfl)) rfl rfl hl.1 rfl (lv_room (Nat.le_of_ble_eq_true rfl)) dX8_loadSetup_29 ⟨Nat.le_of_ble_eq_true rfl, Nat.le_of_ble_eq_true rfl⟩) hS (mm_sS hS) (fun H_29 L_29 hB_29 hz_29 hq_29 hS => ?_)
          obtain ⟨I_29, F_29, hT, hx_29, he_29, hL_29⟩ := hB_29
          have hxi := hxi.tr (hx_29.mono (by decide))
          have hX : TX_ bt n I_29 F_29 := ⟨(hx_29 13 (by decide)).trans hX.1, hX.2.1, fun i hi => (congrFun (he_29 12 (by decide)) i).trans (hX.2.2 i hi)⟩
          have hF := hF.keep hq_29 hMP
          have hk6 := (hx_29 6 (by decide)).trans hk6
          rcases hN_29 : pLi bt n p1 c1 g1 with ⟨c_29, o_29⟩ | ⟨q_29, d_29, g_29⟩
          · rw [hN_29] at hL_29
            have hP : PS bt n (.error (c_29, o_29)) I_29 := hL_29
            have hce_86 := hP.1
            refine lv_goto (tgt := 14) hx hb dX8_loadSetup_32 (by decide) ?_
            refine lv_aload_n hx hb dX8_loadSetup_14 rfl (lv_at hl 0 rfl) ?_
            refine tw_geti 20 (v := nI c_29) hx hb hts hown hKK hT (by decide) rfl (hP.2.1) (hts _ q2518) dX8_loadSetup_15 ?_
            refine mm_if_ne (tgt := 35) (by omega) hx hb dX8_loadSetup_18 (by decide) (fun c_18 => ?_) (fun c_18 => ?_)
            · refine lv_aload_n hx hb dX8_loadSetup_35 rfl (lv_at hl 0 rfl) ?_
              refine mm_rv (va_runV (As := []) (rest := []) ⟨hx, hb, hml, hown, hts⟩ (t_endText l (c9 := c_29) (o9 := o_29) hT hP.2.1 hP.1.2 (fun _ => hP.2.2)) (cwV 0 hts (lw_V q2672 q2674 qs73 q164 q2675) rfl rfl rfl (by decide +kernel) ⟨Nat.le_of_ble_eq_true rfl, Nat.le_of_ble_eq_true rfl⟩) (mm_pV hKK (mm_rc hKK hT.2.1 mm_le.rf rfl)) rfl rfl hl.1 rfl (lv_room (Nat.le_of_ble_eq_true rfl)) dX8_loadSetup_36 ⟨Nat.le_of_ble_eq_true rfl, Nat.le_of_ble_eq_true rfl⟩) hS (mm_sS hS) (fun H_36 L_36 hB_36 hz_36 hq_36 hS => ?_)
              obtain ⟨I_36, hT, hx_36, hk13, hk14, hk15⟩ := hB_36
              have hxi := hxi.tr (hx_36.mono (by decide))
              have hF := hF.keep hq_36 hMP
              have hk6 := (hx_36 6 (by decide)).trans hk6
              have hP : PS bt n (.error (c_29, o_29)) I_36 := hP.cg (exI_cg hx_36)
              have hce_87 := hP.1
              refine lv_aload_n hx hb dX8_loadSetup_39 rfl (lv_at hl 0 rfl) ?_
              refine tw_geti 20 (v := nI c_29) hx hb hts hown hKK hT (by decide) rfl (hP.2.1) (hts _ q2518) dX8_loadSetup_40 ?_
              refine mm_if_le (tgt := 48) (by omega) hx hb dX8_loadSetup_43 (by decide) (fun c_43 => ?_) (fun c_43 => ?_)
              · exact absurd c_43 (by omega)
              · refine lv_iconst (v := (-1)) hx hb dX8_loadSetup_46 (by decide) ?_
                exact mm_iret (v := (-1)) hx hb hr hlk hS (Nat.le_of_ble_eq_true rfl) (Nat.le_of_ble_eq_true rfl) (⟨by rw [(hL1.symm.trans (pSe_e (by omega) c_25 hN_29))]; rfl, _, F_29, hT, by rw [(hL1.symm.trans (pSe_e (by omega) c_25 hN_29))]; exact ⟨⟨hk6, hk13⟩, hk14, hk15.trans (if_neg (by omega)), hxi, he.tr he_29⟩⟩) dX8_loadSetup_47
            · exact absurd c_18 (by omega)
          · rw [hN_29] at hL_29
            obtain ⟨hP, hk9, hc_29, hg_29⟩ := hL_29
            have hbd_q_29 := tk_bd (b := bt) (show q_29 ≤ n from hP.1)
            refine lv_goto (tgt := 14) hx hb dX8_loadSetup_32 (by decide) ?_
            exact ih_14 q_29 d_29 g_29 (f1 - 1) H_29 I_29 F_29 _ _ (by omega) (hc_29) (by rw [← hL1]; exact pSe_s (by omega) c_25 hN_29) (by have := (pLi_gt hpn hN_29).1; omega) ((pLi_gt hpn hN_29).2) (lv_sub hl [0] rfl) hT hX hP hxi hF hk9 hk6 (he.tr he_29) hg_29 hS
  exact lp_14 _ 0 0 (fun _ => 0) (n + 1) H_11 I_11 F _ _ (Nat.lt_succ_self _) (by omega) (rfl) (by omega) (by omega) (lv_sub hl [0] rfl) hT hX hP hxi hF hk9 hk6 eqx.rf (fun i hi => absurd hi (Nat.not_lt_zero _)) hS
