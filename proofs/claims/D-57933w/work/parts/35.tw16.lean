/-! the twin: undo, saved state, input (printed by tools/tw16.py) -/
set_option maxRecDepth 100000 in
theorem tm_undo (l : Launch) {G : mm_G} {P : mm_H} {H : Heap} {x : Nat} {ad : Nat → Nat} {I : Nat → Int32} {F : Nat → Nat → Int32} {S : sp_S} {k : Nat} (hT : TW G x ad I F H) (hR : TR (F 0) S) (hW : WF S) (hk4 : I 4 = nI k) (hk8 : k ≤ 8) : Mt l yX8_undo (ws_ yX8_undo cX8_undo 2 (some .int)) 6 300 0 0 G P [.ref x] H (tw_M x ad) (mm_i (if k = 0 then 0 else nI (k - 1)) (fun H2 => ∃ I2 F2, TW G x ad I2 F2 H2 ∧ if k = 0 then I2 = upd I 6 (ck false true true) ∧ F2 = F else exI [4] (upd I 6 (ck true true true)) I2 ∧ I2 4 = nI (k - 1) ∧ eqx [0] F F2 ∧ ∀ j, j < 4210 → F2 0 j = F 3 (4210 * (k - 1) + j))) := by
  refine Mt.of (by decide) (Nat.le_of_ble_eq_true rfl) (fun p e s m below meth c ls hx hb hr hlk hml hown hnm hts hKK hsH hl hS => ?_)
  have hl : lv_has ls 2 [(0, .ref x)] := hl
  have hR0 := hR
  have hMx : mm_A (tw_M x ad) H x := Or.inl (Or.inl rfl)
  have hMa : ∀ j, tw_isA j = true → mm_A (tw_M x ad) H (ad j) := fun j hj => Or.inl (Or.inr ⟨j, hj, rfl⟩)
  have hnv := hW.nv
  have hnn := hW.nn
  refine lv_aload_n hx hb dX8_undo_0 rfl (lv_at hl 0 rfl) ?_
  refine lv_aload_n hx hb dX8_undo_1 rfl (lv_at hl 0 rfl) ?_
  refine tw_geti 4 (v := nI k) hx hb hts hown hKK hT (by decide) rfl (hk4) (hts _ q2502) dX8_undo_2 ?_
  refine mm_if_le (tgt := 12) (by omega) hx hb dX8_undo_5 (by decide) (fun c_5 => ?_) (fun c_5 => ?_)
  · refine lv_iconst (v := nI 0) hx hb dX8_undo_12 (by decide) ?_
    refine mm_top (y := mm_b false) rfl ?_
    refine lv_iconst (v := nI 1) hx hb dX8_undo_13 (by decide) ?_
    refine mm_top (y := mm_b true) rfl ?_
    refine lv_iconst (v := nI 1) hx hb dX8_undo_14 (by decide) ?_
    refine mm_top (y := mm_b true) rfl ?_
    refine mm_ri (va_runV (As := [.int (mm_b false), .int (mm_b true), .int (mm_b true)]) (rest := []) ⟨hx, hb, hml, hown, hts⟩ (t_check l hT) (cwV 3 hts (lw_V q2841 q2843 qs110 q164 q2844) rfl rfl rfl (by decide +kernel) ⟨Nat.le_of_ble_eq_true rfl, Nat.le_of_ble_eq_true rfl⟩) (mm_pV hKK (mm_rc hKK hT.2.1 mm_le.rf rfl)) rfl rfl hl.1 rfl (lv_room (Nat.le_of_ble_eq_true rfl)) dX8_undo_15 ⟨Nat.le_of_ble_eq_true rfl, Nat.le_of_ble_eq_true rfl⟩) hS (mm_sS hS) (fun H_15 L_15 hT hz_15 hq_15 hS => ?_)
    refine mm_top (y := mm_b false) rfl ?_
    refine mm_ifneB (tgt := 23) hx hb dX8_undo_18 (by decide) (fun c_18 => ?_) (fun c_18 => ?_)
    · exact absurd c_18 (by decide)
    · refine lv_iconst (v := nI 0) hx hb dX8_undo_21 (by decide) ?_
      exact mm_iret (v := nI 0) hx hb hr hlk hS (Nat.le_of_ble_eq_true rfl) (Nat.le_of_ble_eq_true rfl) (⟨by rw [if_pos (by omega)]; rfl, _, F, hT, by rw [if_pos (by omega)]; exact ⟨rfl, rfl⟩⟩) dX8_undo_22
  · refine lv_iconst (v := nI 1) hx hb dX8_undo_8 (by decide) ?_
    refine mm_top (y := mm_b true) rfl ?_
    refine lv_goto (tgt := 13) hx hb dX8_undo_9 (by decide) ?_
    refine lv_iconst (v := nI 1) hx hb dX8_undo_13 (by decide) ?_
    refine mm_top (y := mm_b true) rfl ?_
    refine lv_iconst (v := nI 1) hx hb dX8_undo_14 (by decide) ?_
    refine mm_top (y := mm_b true) rfl ?_
    refine mm_ri (va_runV (As := [.int (mm_b true), .int (mm_b true), .int (mm_b true)]) (rest := []) ⟨hx, hb, hml, hown, hts⟩ (t_check l hT) (cwV 3 hts (lw_V q2841 q2843 qs110 q164 q2844) rfl rfl rfl (by decide +kernel) ⟨Nat.le_of_ble_eq_true rfl, Nat.le_of_ble_eq_true rfl⟩) (mm_pV hKK (mm_rc hKK hT.2.1 mm_le.rf rfl)) rfl rfl hl.1 rfl (lv_room (Nat.le_of_ble_eq_true rfl)) dX8_undo_15 ⟨Nat.le_of_ble_eq_true rfl, Nat.le_of_ble_eq_true rfl⟩) hS (mm_sS hS) (fun H_15 L_15 hT hz_15 hq_15 hS => ?_)
    refine mm_top (y := mm_b true) rfl ?_
    refine mm_ifneB (tgt := 23) hx hb dX8_undo_18 (by decide) (fun c_18 => ?_) (fun c_18 => ?_)
    · refine lv_aload_n hx hb dX8_undo_23 rfl (lv_at hl 0 rfl) ?_
      refine lv_dup hx hb dX8_undo_24 rfl ?_
      refine tw_geti 4 (v := nI k) hx hb hts hown hKK hT (by decide) rfl ((tw_un (by decide)).trans (hk4)) (hts _ q2502) dX8_undo_25 ?_
      refine lv_iconst (v := nI 1) hx hb dX8_undo_28 (by decide) ?_
      refine mm_isub (by omega) hx hb dX8_undo_29 ?_
      refine tw_put 4 hx hb hts hown hKK hT hS (hMx) (by decide) rfl (by decide) ⟨rfl, rfl⟩ (hts _ q2502) dX8_undo_30 (fun H_30 L_30 hT hz_30 hq_30 hS => ?_)
      refine lv_iconst (v := nI 0) hx hb dX8_undo_33 (by decide) ?_
      refine lv_istore_n (lv' := [(1, .int (nI 0)), (0, .ref x)]) hx hb dX8_undo_34 rfl hl (by decide) rfl (fun ls hl => ?_)
      have lp_35 : ∀ (fu : Nat) (i : Nat) (H1 : Heap) (F1 : Nat → Nat → Int32) (L : List Loc) (ls : Array Slot), 4210 - i < fu → (i ≤ 4210) → lv_has ls 2 [(1, .int (nI i)), (0, .ref x)] → (TW G x ad (upd (upd I 6 (ck true true true)) 4 (nI (k - 1))) F1 H1) → (eqx [0] F F1) → (∀ j, j < i → F1 0 j = F 3 (4210 * (k - 1) + j)) → va_S (mm_A (tw_M x ad) H) H H1 L → W p l e (mm_rm 6 300 0 0) s m ([.ref x] : List Value).toArray below meth c H1 L 0 0 (MQ below (mm_Qc H (tw_M x ad) (mm_i (if k = 0 then 0 else nI (k - 1)) (fun H2 => ∃ I2 F2, TW G x ad I2 F2 H2 ∧ if k = 0 then I2 = upd I 6 (ck false true true) ∧ F2 = F else exI [4] (upd I 6 (ck true true true)) I2 ∧ I2 4 = nI (k - 1) ∧ eqx [0] F F2 ∧ ∀ j, j < 4210 → F2 0 j = F 3 (4210 * (k - 1) + j)))) ([.ref x] : List Value).toArray s 0 0 (mm_A (tw_M x ad) H)) (F0 m 35 ls []) := by
        intro fu; induction fu with
        | zero => intro i H1 F1 L ls hfu; exact absurd hfu (Nat.not_lt_zero _)
        | succ fu ih =>
          intro i H1 F1 L ls hfu hi hl hT he h0 hS
          have ih_35 := ih
          refine lv_iload_n hx hb dX8_undo_35 rfl (lv_at hl 0 rfl) ?_
          refine lv_sipush (v := nI 4210) hx hb dX8_undo_36 (by decide) ?_
          refine mm_icmp_ge (tgt := 69) (by omega) (by omega) hx hb dX8_undo_39 (by decide) (fun c_39 => ?_) (fun c_39 => ?_)
          · refine lv_aload_n hx hb dX8_undo_69 rfl (lv_at hl 1 rfl) ?_
            refine tw_geti 4 (v := nI (k - 1)) hx hb hts hown hKK hT (by decide) rfl (tw_up _ _ _) (hts _ q2502) dX8_undo_70 ?_
            exact mm_iret (v := nI (k - 1)) hx hb hr hlk hS (Nat.le_of_ble_eq_true rfl) (Nat.le_of_ble_eq_true rfl) (⟨by rw [if_neg (by omega)], _, F1, hT, by rw [if_neg (by omega)]; exact ⟨exI.u (by decide), tw_up _ _ _, he, fun j hj => h0 j (by omega)⟩⟩) dX8_undo_73
          · refine lv_aload_n hx hb dX8_undo_42 rfl (lv_at hl 1 rfl) ?_
            refine tw_geta 0 hx hb hts hown hKK hT rfl rfl (hts _ q2498) dX8_undo_43 ?_
            refine lv_iload_n hx hb dX8_undo_46 rfl (lv_at hl 0 rfl) ?_
            refine lv_aload_n hx hb dX8_undo_47 rfl (lv_at hl 1 rfl) ?_
            refine tw_geta 3 hx hb hts hown hKK hT rfl rfl (hts _ q2501) dX8_undo_48 ?_
            refine lv_sipush (v := nI 4210) hx hb dX8_undo_51 (by decide) ?_
            refine lv_aload_n hx hb dX8_undo_54 rfl (lv_at hl 1 rfl) ?_
            refine tw_geti 4 (v := nI (k - 1)) hx hb hts hown hKK hT (by decide) rfl (tw_up _ _ _) (hts _ q2502) dX8_undo_55 ?_
            refine mm_imul hx hb dX8_undo_58 ?_
            refine lv_iload_n hx hb dX8_undo_59 rfl (lv_at hl 0 rfl) ?_
            refine mm_iadd hx hb dX8_undo_60 ?_
            refine mm_iald (k := (4210 * (k - 1) + i)) hx hb hKK (hT.2.2 3 rfl) mm_le.rf (by show _ < 33680; omega) (by decide) dX8_undo_61 ?_
            refine tw_st 0 (k := i) hx hb hKK hT hS hMa rfl rfl (by show _ < 4210; omega) dX8_undo_62 (fun H_62 L_62 hT hz_62 hq_62 hS => ?_)
            refine lv_iinc (v := nI (i + 1)) (lv' := [(1, .int (nI (i + 1))), (0, .ref x)]) hx hb dX8_undo_63 hl (k := 0) rfl (nI_add _ _) (by decide) rfl (fun ls hl => ?_)
            refine lv_goto (tgt := 35) hx hb dX8_undo_66 (by decide) ?_
            exact ih_35 (i + 1) H_62 ((tw_u F1 0 i (F1 3 (4210 * (k - 1) + i)))) _ _ (by omega) (by omega) (lv_sub hl [0, 1] rfl) hT (he.tr (eqx.u (by decide))) (fun j hj => by rw [tw_us]; by_cases z : j = i; rw [z]; exact pk_us.trans (by rw [he 3 (by decide)]); rw [pk_un z]; exact h0 j (by omega)) hS
      exact lp_35 _ 0 H_30 F _ _ (Nat.lt_succ_self _) (by omega) (lv_sub hl [0, 1] rfl) hT eqx.rf (fun j hj => absurd hj (Nat.not_lt_zero _)) hS
    · exact absurd c_18 (by decide)
set_option maxRecDepth 100000 in
theorem tm_saveState (l : Launch) {G : mm_G} {P : mm_H} {H : Heap} {x : Nat} {ad : Nat → Nat} {I : Nat → Int32} {F : Nat → Nat → Int32} {S : sp_S} (hT : TW G x ad I F H) (hR : TR (F 0) S) (hW : WF S) : Mt l yX8_saveState (ws_ yX8_saveState cX8_saveState 1 (some .int)) 6 300 0 0 G P [.ref x] H (tw_M x ad) (mm_i (nI (s_nv S)) (fun H2 => ∃ F2, TW G x ad (upd (upd I 6 (nI 0)) 5 (mm_b true)) F2 H2 ∧ eqx [2] F F2 ∧ ∀ j, j < 4210 → F2 2 j = F 0 j)) := by
  refine Mt.of (by decide) (Nat.le_of_ble_eq_true rfl) (fun p e s m below meth c ls hx hb hr hlk hml hown hnm hts hKK hsH hl hS => ?_)
  have hl : lv_has ls 1 [(0, .ref x)] := hl
  have hR0 := hR
  have hMx : mm_A (tw_M x ad) H x := Or.inl (Or.inl rfl)
  have hMa : ∀ j, tw_isA j = true → mm_A (tw_M x ad) H (ad j) := fun j hj => Or.inl (Or.inr ⟨j, hj, rfl⟩)
  have hnv := hW.nv
  have hnn := hW.nn
  refine lv_aload_n hx hb dX8_saveState_0 rfl (lv_at hl 0 rfl) ?_
  refine lv_iconst (v := nI 0) hx hb dX8_saveState_1 (by decide) ?_
  refine tw_put 6 hx hb hts hown hKK hT hS (hMx) (by decide) rfl (by decide) ⟨rfl, rfl⟩ (hts _ q2504) dX8_saveState_2 (fun H_2 L_2 hT hz_2 hq_2 hS => ?_)
  refine lv_aload_n hx hb dX8_saveState_5 rfl (lv_at hl 0 rfl) ?_
  refine lv_aload_n hx hb dX8_saveState_6 rfl (lv_at hl 0 rfl) ?_
  refine tw_geta 2 hx hb hts hown hKK hT rfl rfl (hts _ q2500) dX8_saveState_7 ?_
  refine mm_rv (va_runV (As := [.ref (ad 2)]) (rest := []) ⟨hx, hb, hml, hown, hts⟩ (t_copyTo l hT) (cwV 1 hts (lw_V q3096 q3098 qs132 q164 q3099) rfl rfl rfl (by decide +kernel) ⟨Nat.le_of_ble_eq_true rfl, Nat.le_of_ble_eq_true rfl⟩) (mm_pV hKK (mm_rc hKK hT.2.1 mm_le.rf rfl)) rfl rfl hl.1 rfl (lv_room (Nat.le_of_ble_eq_true rfl)) dX8_saveState_10 ⟨Nat.le_of_ble_eq_true rfl, Nat.le_of_ble_eq_true rfl⟩) hS (mm_sS hS) (fun H_10 L_10 hB_10 hz_10 hq_10 hS => ?_)
  obtain ⟨F_10, hT, he_10, h2_10⟩ := hB_10
  have hR := TRx he_10 (by decide) hR
  refine lv_aload_n hx hb dX8_saveState_13 rfl (lv_at hl 0 rfl) ?_
  refine lv_iconst (v := nI 1) hx hb dX8_saveState_14 (by decide) ?_
  refine mm_top (y := mm_b true) rfl ?_
  refine tw_put 5 hx hb hts hown hKK hT hS (hMx) (by decide) rfl (by decide) ⟨mm_nb _, mm_fb2 _⟩ (hts _ q2503) dX8_saveState_15 (fun H_15 L_15 hT hz_15 hq_15 hS => ?_)
  refine lv_aload_n hx hb dX8_saveState_18 rfl (lv_at hl 0 rfl) ?_
  refine tw_geta 0 hx hb hts hown hKK hT rfl rfl (hts _ q2498) dX8_saveState_19 ?_
  refine lv_iconst (v := nI 0) hx hb dX8_saveState_22 (by decide) ?_
  refine mm_iald (k := 0) hx hb hKK (hT.2.2 0 rfl) mm_le.rf (by show _ < 4210; omega) (by decide) dX8_saveState_23 ?_
  refine mm_top (y := nI (s_nv S)) (hR.nv) ?_
  exact mm_iret (v := nI (s_nv S)) hx hb hr hlk hS (Nat.le_of_ble_eq_true rfl) (Nat.le_of_ble_eq_true rfl) (⟨rfl, F_10, hT, he_10, h2_10⟩) dX8_saveState_24
set_option maxRecDepth 100000 in
theorem tm_restoreState (l : Launch) {G : mm_G} {P : mm_H} {H : Heap} {x : Nat} {ad : Nat → Nat} {I : Nat → Int32} {F : Nat → Nat → Int32} {sv : Bool} {S2 : sp_S} (hT : TW G x ad I F H) (hsv : I 5 = mm_b sv) (hs2 : sv = true → TR (F 2) S2) : Mt l yX8_restoreState (ws_ yX8_restoreState cX8_restoreState 1 (some .int)) 6 300 0 0 G P [.ref x] H (tw_M x ad) (mm_i (qv sv (nI (s_nv S2))) (fun H2 => ∃ I2 F2, TW G x ad I2 F2 H2 ∧ if sv = true then exI [4] (upd I 6 (ck true true true)) I2 ∧ I2 4 = nI 0 ∧ eqx [0] F F2 ∧ ∀ j, j < 4210 → F2 0 j = F 2 j else I2 = upd I 6 (ck false true true) ∧ F2 = F)) := by
  refine Mt.of (by decide) (Nat.le_of_ble_eq_true rfl) (fun p e s m below meth c ls hx hb hr hlk hml hown hnm hts hKK hsH hl hS => ?_)
  have hl : lv_has ls 1 [(0, .ref x)] := hl
  have hMx : mm_A (tw_M x ad) H x := Or.inl (Or.inl rfl)
  have hMa : ∀ j, tw_isA j = true → mm_A (tw_M x ad) H (ad j) := fun j hj => Or.inl (Or.inr ⟨j, hj, rfl⟩)
  refine lv_aload_n hx hb dX8_restoreState_0 rfl (lv_at hl 0 rfl) ?_
  refine lv_aload_n hx hb dX8_restoreState_1 rfl (lv_at hl 0 rfl) ?_
  refine tw_geti 5 (v := mm_b sv) hx hb hts hown hKK hT (by decide) rfl (hsv) (hts _ q2503) dX8_restoreState_2 ?_
  refine lv_iconst (v := nI 1) hx hb dX8_restoreState_5 (by decide) ?_
  refine mm_top (y := mm_b true) rfl ?_
  refine lv_iconst (v := nI 1) hx hb dX8_restoreState_6 (by decide) ?_
  refine mm_top (y := mm_b true) rfl ?_
  refine mm_ri (va_runV (As := [.int (mm_b sv), .int (mm_b true), .int (mm_b true)]) (rest := []) ⟨hx, hb, hml, hown, hts⟩ (t_check l hT) (cwV 3 hts (lw_V q2841 q2843 qs110 q164 q2844) rfl rfl rfl (by decide +kernel) ⟨Nat.le_of_ble_eq_true rfl, Nat.le_of_ble_eq_true rfl⟩) (mm_pV hKK (mm_rc hKK hT.2.1 mm_le.rf rfl)) rfl rfl hl.1 rfl (lv_room (Nat.le_of_ble_eq_true rfl)) dX8_restoreState_7 ⟨Nat.le_of_ble_eq_true rfl, Nat.le_of_ble_eq_true rfl⟩) hS (mm_sS hS) (fun H_7 L_7 hT hz_7 hq_7 hS => ?_)
  refine mm_top (y := mm_b sv) (by rw [Bool.and_true, Bool.and_true]) ?_
  refine mm_ifneB (tgt := 15) hx hb dX8_restoreState_10 (by decide) (fun c_10 => ?_) (fun c_10 => ?_)
  · refine lv_aload_n hx hb dX8_restoreState_15 rfl (lv_at hl 0 rfl) ?_
    refine lv_aload_n hx hb dX8_restoreState_16 rfl (lv_at hl 0 rfl) ?_
    refine tw_geta 2 hx hb hts hown hKK hT rfl rfl (hts _ q2500) dX8_restoreState_17 ?_
    refine mm_rv (va_runV (As := [.ref (ad 2)]) (rest := []) ⟨hx, hb, hml, hown, hts⟩ (t_copyFrom l hT) (cwV 1 hts (lw_V q3104 q3106 qs133 q164 q3107) rfl rfl rfl (by decide +kernel) ⟨Nat.le_of_ble_eq_true rfl, Nat.le_of_ble_eq_true rfl⟩) (mm_pV hKK (mm_rc hKK hT.2.1 mm_le.rf rfl)) rfl rfl hl.1 rfl (lv_room (Nat.le_of_ble_eq_true rfl)) dX8_restoreState_20 ⟨Nat.le_of_ble_eq_true rfl, Nat.le_of_ble_eq_true rfl⟩) hS (mm_sS hS) (fun H_20 L_20 hB_20 hz_20 hq_20 hS => ?_)
    obtain ⟨F_20, hT, he_20, h2_20⟩ := hB_20
    refine lv_aload_n hx hb dX8_restoreState_23 rfl (lv_at hl 0 rfl) ?_
    refine lv_iconst (v := nI 0) hx hb dX8_restoreState_24 (by decide) ?_
    refine tw_put 4 hx hb hts hown hKK hT hS (hMx) (by decide) rfl (by decide) ⟨rfl, rfl⟩ (hts _ q2502) dX8_restoreState_25 (fun H_25 L_25 hT hz_25 hq_25 hS => ?_)
    refine lv_aload_n hx hb dX8_restoreState_28 rfl (lv_at hl 0 rfl) ?_
    refine tw_geta 0 hx hb hts hown hKK hT rfl rfl (hts _ q2498) dX8_restoreState_29 ?_
    refine lv_iconst (v := nI 0) hx hb dX8_restoreState_32 (by decide) ?_
    refine mm_iald (k := 0) hx hb hKK (hT.2.2 0 rfl) mm_le.rf (by show _ < 4210; omega) (by decide) dX8_restoreState_33 ?_
    refine mm_top (y := nI (s_nv S2)) ((h2_20 0 (by omega)).trans (hs2 c_10).nv) ?_
    exact mm_iret (v := nI (s_nv S2)) hx hb hr hlk hS (Nat.le_of_ble_eq_true rfl) (Nat.le_of_ble_eq_true rfl) (⟨by rw [qv_t c_10], _, F_20, hT, by rw [if_pos c_10, c_10]; exact ⟨exI.u (by decide), tw_up _ _ _, he_20, h2_20⟩⟩) dX8_restoreState_34
  · refine lv_iconst (v := nI 0) hx hb dX8_restoreState_13 (by decide) ?_
    exact mm_iret (v := nI 0) hx hb hr hlk hS (Nat.le_of_ble_eq_true rfl) (Nat.le_of_ble_eq_true rfl) (⟨by rw [qv_f c_10]; rfl, _, F, hT, by rw [if_neg (by rw [c_10]; decide)]; exact ⟨by rw [c_10], rfl⟩⟩) dX8_restoreState_14
set_option maxRecDepth 100000 in
theorem t_appendWord (l : Launch) {G : mm_G} {P : mm_H} {H : Heap} {x : Nat} {ad : Nat → Nat} {I : Nat → Int32} {F : Nat → Nat → Int32} {k : Nat} {w : Int32} (hT : TW G x ad I F H) (hk : I 13 = nI k) (hk9 : k ≤ 580 + 16) : Mt l yX8_appendWord (ws_ yX8_appendWord cX8_appendWord 3 none) 2 40 0 0 G P [.ref x, .int w] H (tw_M x ad) (mm_v (fun H2 => ∃ I2 F2, TW G x ad I2 F2 H2 ∧ exI [13] I I2 ∧ I2 13 = nI (k + 4) ∧ eqx [12] F F2 ∧ (∀ j, j < k → F2 12 j = F 12 j) ∧ ∀ q, q < 4 → F2 12 (k + q) = bw w q)) := by
  refine Mt.of (by decide) (Nat.le_of_ble_eq_true rfl) (fun p e s m below meth c ls hx hb hr hlk hml hown hnm hts hKK hsH hl hS => ?_)
  have hl : lv_has ls 3 [(0, .ref x), (1, .int w)] := hl
  have hMx : mm_A (tw_M x ad) H x := Or.inl (Or.inl rfl)
  have hMa : ∀ j, tw_isA j = true → mm_A (tw_M x ad) H (ad j) := fun j hj => Or.inl (Or.inr ⟨j, hj, rfl⟩)
  refine lv_iconst (v := nI 3) hx hb dX8_appendWord_0 (by decide) ?_
  refine lv_istore_n (lv' := [(2, .int (nI 3)), (0, .ref x), (1, .int w)]) hx hb dX8_appendWord_1 rfl hl (by decide) rfl (fun ls hl => ?_)
  refine lv_iload_n hx hb dX8_appendWord_2 rfl (lv_at hl 0 rfl) ?_
  refine mm_if_lt (tgt := 38) (by omega) hx hb dX8_appendWord_3 (by decide) (fun c_3 => ?_) (fun c_3 => ?_)
  · exact c_3.elim
  · refine lv_aload_n hx hb dX8_appendWord_6 rfl (lv_at hl 1 rfl) ?_
    refine tw_geta 12 hx hb hts hown hKK hT rfl rfl (hts _ q2510) dX8_appendWord_7 ?_
    refine lv_aload_n hx hb dX8_appendWord_10 rfl (lv_at hl 1 rfl) ?_
    refine tw_geti 13 (v := nI k) hx hb hts hown hKK hT (by decide) rfl (hk) (hts _ q2511) dX8_appendWord_11 ?_
    refine lv_iload_n hx hb dX8_appendWord_14 rfl (lv_at hl 2 rfl) ?_
    refine lv_bipush (v := nI 8) hx hb dX8_appendWord_15 (by decide) ?_
    refine lv_iload_n hx hb dX8_appendWord_17 rfl (lv_at hl 0 rfl) ?_
    refine mm_imul hx hb dX8_appendWord_18 ?_
    refine lv_ishr hx hb dX8_appendWord_19 ?_
    refine lv_i2b hx hb dX8_appendWord_20 rfl ?_
    refine tw_stb 12 (k := k) hx hb hKK hT hS hMa rfl rfl (by show _ < 600; omega) dX8_appendWord_21 (fun H_21 L_21 hT hz_21 hq_21 hS => ?_)
    refine lv_aload_n hx hb dX8_appendWord_22 rfl (lv_at hl 1 rfl) ?_
    refine lv_dup hx hb dX8_appendWord_23 rfl ?_
    refine tw_geti 13 (v := nI k) hx hb hts hown hKK hT (by decide) rfl (hk) (hts _ q2511) dX8_appendWord_24 ?_
    refine lv_iconst (v := nI 1) hx hb dX8_appendWord_27 (by decide) ?_
    refine mm_iadd hx hb dX8_appendWord_28 ?_
    refine tw_put 13 hx hb hts hown hKK hT hS (hMx) (by decide) rfl (by decide) ⟨rfl, rfl⟩ (hts _ q2511) dX8_appendWord_29 (fun H_29 L_29 hT hz_29 hq_29 hS => ?_)
    refine lv_iinc (v := nI 2) (lv' := [(2, .int (nI 2)), (0, .ref x), (1, .int w)]) hx hb dX8_appendWord_32 hl (k := 0) rfl (rfl) (by decide) rfl (fun ls hl => ?_)
    refine lv_goto (tgt := 2) hx hb dX8_appendWord_35 (by decide) ?_
    refine lv_iload_n hx hb dX8_appendWord_2 rfl (lv_at hl 0 rfl) ?_
    refine mm_if_lt (tgt := 38) (by omega) hx hb dX8_appendWord_3 (by decide) (fun c_3 => ?_) (fun c_3 => ?_)
    · exact c_3.elim
    · refine lv_aload_n hx hb dX8_appendWord_6 rfl (lv_at hl 1 rfl) ?_
      refine tw_geta 12 hx hb hts hown hKK hT rfl rfl (hts _ q2510) dX8_appendWord_7 ?_
      refine lv_aload_n hx hb dX8_appendWord_10 rfl (lv_at hl 1 rfl) ?_
      refine tw_geti 13 (v := nI (k + 1)) hx hb hts hown hKK hT (by decide) rfl (tw_up _ _ _) (hts _ q2511) dX8_appendWord_11 ?_
      refine lv_iload_n hx hb dX8_appendWord_14 rfl (lv_at hl 2 rfl) ?_
      refine lv_bipush (v := nI 8) hx hb dX8_appendWord_15 (by decide) ?_
      refine lv_iload_n hx hb dX8_appendWord_17 rfl (lv_at hl 0 rfl) ?_
      refine mm_imul hx hb dX8_appendWord_18 ?_
      refine lv_ishr hx hb dX8_appendWord_19 ?_
      refine lv_i2b hx hb dX8_appendWord_20 rfl ?_
      refine tw_stb 12 (k := (k + 1)) hx hb hKK hT hS hMa rfl rfl (by show _ < 600; omega) dX8_appendWord_21 (fun H_21 L_21 hT hz_21 hq_21 hS => ?_)
      refine lv_aload_n hx hb dX8_appendWord_22 rfl (lv_at hl 1 rfl) ?_
      refine lv_dup hx hb dX8_appendWord_23 rfl ?_
      refine tw_geti 13 (v := nI (k + 1)) hx hb hts hown hKK hT (by decide) rfl (tw_up _ _ _) (hts _ q2511) dX8_appendWord_24 ?_
      refine lv_iconst (v := nI 1) hx hb dX8_appendWord_27 (by decide) ?_
      refine mm_iadd hx hb dX8_appendWord_28 ?_
      refine mm_top (y := nI (k + 2)) (congrArg nI (by omega)) ?_
      refine tw_put 13 hx hb hts hown hKK hT hS (hMx) (by decide) rfl (by decide) ⟨rfl, rfl⟩ (hts _ q2511) dX8_appendWord_29 (fun H_29 L_29 hT hz_29 hq_29 hS => ?_)
      refine lv_iinc (v := nI 1) (lv' := [(2, .int (nI 1)), (0, .ref x), (1, .int w)]) hx hb dX8_appendWord_32 hl (k := 0) rfl (rfl) (by decide) rfl (fun ls hl => ?_)
      refine lv_goto (tgt := 2) hx hb dX8_appendWord_35 (by decide) ?_
      refine lv_iload_n hx hb dX8_appendWord_2 rfl (lv_at hl 0 rfl) ?_
      refine mm_if_lt (tgt := 38) (by omega) hx hb dX8_appendWord_3 (by decide) (fun c_3 => ?_) (fun c_3 => ?_)
      · exact c_3.elim
      · refine lv_aload_n hx hb dX8_appendWord_6 rfl (lv_at hl 1 rfl) ?_
        refine tw_geta 12 hx hb hts hown hKK hT rfl rfl (hts _ q2510) dX8_appendWord_7 ?_
        refine lv_aload_n hx hb dX8_appendWord_10 rfl (lv_at hl 1 rfl) ?_
        refine tw_geti 13 (v := nI (k + 2)) hx hb hts hown hKK hT (by decide) rfl (tw_up _ _ _) (hts _ q2511) dX8_appendWord_11 ?_
        refine lv_iload_n hx hb dX8_appendWord_14 rfl (lv_at hl 2 rfl) ?_
        refine lv_bipush (v := nI 8) hx hb dX8_appendWord_15 (by decide) ?_
        refine lv_iload_n hx hb dX8_appendWord_17 rfl (lv_at hl 0 rfl) ?_
        refine mm_imul hx hb dX8_appendWord_18 ?_
        refine lv_ishr hx hb dX8_appendWord_19 ?_
        refine lv_i2b hx hb dX8_appendWord_20 rfl ?_
        refine tw_stb 12 (k := (k + 2)) hx hb hKK hT hS hMa rfl rfl (by show _ < 600; omega) dX8_appendWord_21 (fun H_21 L_21 hT hz_21 hq_21 hS => ?_)
        refine lv_aload_n hx hb dX8_appendWord_22 rfl (lv_at hl 1 rfl) ?_
        refine lv_dup hx hb dX8_appendWord_23 rfl ?_
        refine tw_geti 13 (v := nI (k + 2)) hx hb hts hown hKK hT (by decide) rfl (tw_up _ _ _) (hts _ q2511) dX8_appendWord_24 ?_
        refine lv_iconst (v := nI 1) hx hb dX8_appendWord_27 (by decide) ?_
        refine mm_iadd hx hb dX8_appendWord_28 ?_
        refine mm_top (y := nI (k + 3)) (congrArg nI (by omega)) ?_
        refine tw_put 13 hx hb hts hown hKK hT hS (hMx) (by decide) rfl (by decide) ⟨rfl, rfl⟩ (hts _ q2511) dX8_appendWord_29 (fun H_29 L_29 hT hz_29 hq_29 hS => ?_)
        refine lv_iinc (v := nI 0) (lv' := [(2, .int (nI 0)), (0, .ref x), (1, .int w)]) hx hb dX8_appendWord_32 hl (k := 0) rfl (rfl) (by decide) rfl (fun ls hl => ?_)
        refine lv_goto (tgt := 2) hx hb dX8_appendWord_35 (by decide) ?_
        refine lv_iload_n hx hb dX8_appendWord_2 rfl (lv_at hl 0 rfl) ?_
        refine mm_if_lt (tgt := 38) (by omega) hx hb dX8_appendWord_3 (by decide) (fun c_3 => ?_) (fun c_3 => ?_)
        · exact c_3.elim
        · refine lv_aload_n hx hb dX8_appendWord_6 rfl (lv_at hl 1 rfl) ?_
          refine tw_geta 12 hx hb hts hown hKK hT rfl rfl (hts _ q2510) dX8_appendWord_7 ?_
          refine lv_aload_n hx hb dX8_appendWord_10 rfl (lv_at hl 1 rfl) ?_
          refine tw_geti 13 (v := nI (k + 3)) hx hb hts hown hKK hT (by decide) rfl (tw_up _ _ _) (hts _ q2511) dX8_appendWord_11 ?_
          refine lv_iload_n hx hb dX8_appendWord_14 rfl (lv_at hl 2 rfl) ?_
          refine lv_bipush (v := nI 8) hx hb dX8_appendWord_15 (by decide) ?_
          refine lv_iload_n hx hb dX8_appendWord_17 rfl (lv_at hl 0 rfl) ?_
          refine mm_imul hx hb dX8_appendWord_18 ?_
          refine lv_ishr hx hb dX8_appendWord_19 ?_
          refine lv_i2b hx hb dX8_appendWord_20 rfl ?_
          refine tw_stb 12 (k := (k + 3)) hx hb hKK hT hS hMa rfl rfl (by show _ < 600; omega) dX8_appendWord_21 (fun H_21 L_21 hT hz_21 hq_21 hS => ?_)
          refine lv_aload_n hx hb dX8_appendWord_22 rfl (lv_at hl 1 rfl) ?_
          refine lv_dup hx hb dX8_appendWord_23 rfl ?_
          refine tw_geti 13 (v := nI (k + 3)) hx hb hts hown hKK hT (by decide) rfl (tw_up _ _ _) (hts _ q2511) dX8_appendWord_24 ?_
          refine lv_iconst (v := nI 1) hx hb dX8_appendWord_27 (by decide) ?_
          refine mm_iadd hx hb dX8_appendWord_28 ?_
          refine mm_top (y := nI (k + 4)) (congrArg nI (by omega)) ?_
          refine tw_put 13 hx hb hts hown hKK hT hS (hMx) (by decide) rfl (by decide) ⟨rfl, rfl⟩ (hts _ q2511) dX8_appendWord_29 (fun H_29 L_29 hT hz_29 hq_29 hS => ?_)
          refine lv_iinc (v := (-1)) (lv' := [(2, .int ((-1))), (0, .ref x), (1, .int w)]) hx hb dX8_appendWord_32 hl (k := 0) rfl (rfl) (by decide) rfl (fun ls hl => ?_)
          refine lv_goto (tgt := 2) hx hb dX8_appendWord_35 (by decide) ?_
          refine lv_iload_n hx hb dX8_appendWord_2 rfl (lv_at hl 0 rfl) ?_
          refine lv_if_lt (tgt := 38) hx hb dX8_appendWord_3 (by decide) (fun c_3 => ?_) (fun c_3 => ?_)
          · exact mm_vret hx hb hr hlk hS (Nat.le_of_ble_eq_true rfl) (Nat.le_of_ble_eq_true rfl) (⟨rfl, _, _, hT, (exI.u (by decide)).tr ((exI.u (by decide)).tr ((exI.u (by decide)).tr (exI.u (by decide)))), tw_up _ _ _, (eqx.u (by decide)).tr ((eqx.u (by decide)).tr ((eqx.u (by decide)).tr (eqx.u (by decide)))), bw_old, bw_new⟩) dX8_appendWord_38
          · exact absurd c_3 (by decide)
set_option maxRecDepth 100000 in
theorem tm_appendInput (l : Launch) {G : mm_G} {P : mm_H} {H : Heap} {x : Nat} {ad : Nat → Nat} {I : Nat → Int32} {F : Nat → Nat → Int32} {k : Nat} {a b v d e9 : Int32} (hT : TW G x ad I F H) (hk : I 13 = nI k) (hk9 : k ≤ 600) : Mt l yX8_appendInput (ws_ yX8_appendInput cX8_appendInput 6 (some .int)) 4 120 0 0 G P [.ref x, .int a, .int b, .int v, .int d, .int e9] H (tw_M x ad) (mm_i (if 580 < k then -1 else nI (k + 20)) (fun H2 => ∃ I2 F2, TW G x ad I2 F2 H2 ∧ if 580 < k then I2 = upd I 6 (nI 0) ∧ F2 = F else exI [13] (upd I 6 (nI 0)) I2 ∧ I2 13 = nI (k + 20) ∧ eqx [12] F F2 ∧ (∀ j, j < k → F2 12 j = F 12 j) ∧ ∀ q, q < 20 → F2 12 (k + q) = bw (w5 a b v d e9 (q / 4)) (q % 4))) := by
  refine Mt.of (by decide) (Nat.le_of_ble_eq_true rfl) (fun p e s m below meth c ls hx hb hr hlk hml hown hnm hts hKK hsH hl hS => ?_)
  have hl : lv_has ls 6 [(0, .ref x), (1, .int a), (2, .int b), (3, .int v), (4, .int d), (5, .int e9)] := hl
  have hMx : mm_A (tw_M x ad) H x := Or.inl (Or.inl rfl)
  have hMa : ∀ j, tw_isA j = true → mm_A (tw_M x ad) H (ad j) := fun j hj => Or.inl (Or.inr ⟨j, hj, rfl⟩)
  refine lv_aload_n hx hb dX8_appendInput_0 rfl (lv_at hl 0 rfl) ?_
  refine lv_iconst (v := nI 0) hx hb dX8_appendInput_1 (by decide) ?_
  refine tw_put 6 hx hb hts hown hKK hT hS (hMx) (by decide) rfl (by decide) ⟨rfl, rfl⟩ (hts _ q2504) dX8_appendInput_2 (fun H_2 L_2 hT hz_2 hq_2 hS => ?_)
  refine lv_aload_n hx hb dX8_appendInput_5 rfl (lv_at hl 0 rfl) ?_
  refine tw_geti 13 (v := nI k) hx hb hts hown hKK hT (by decide) rfl ((tw_un (by decide)).trans (hk)) (hts _ q2511) dX8_appendInput_6 ?_
  refine lv_sipush (v := nI 580) hx hb dX8_appendInput_9 (by decide) ?_
  refine mm_icmp_le (tgt := 17) (by omega) (by omega) hx hb dX8_appendInput_12 (by decide) (fun c_12 => ?_) (fun c_12 => ?_)
  · refine lv_aload_n hx hb dX8_appendInput_17 rfl (lv_at hl 0 rfl) ?_
    refine lv_iload_n hx hb dX8_appendInput_18 rfl (lv_at hl 1 rfl) ?_
    refine mm_rv (va_runV (As := [.int a]) (rest := []) ⟨hx, hb, hml, hown, hts⟩ (t_appendWord l hT ((tw_un (by decide)).trans (hk)) (by omega)) (cwV 1 hts (lw_V q2591 q2593 qs62 q164 q2594) rfl rfl rfl (by decide +kernel) ⟨Nat.le_of_ble_eq_true rfl, Nat.le_of_ble_eq_true rfl⟩) (mm_pV hKK (mm_rc hKK hT.2.1 mm_le.rf rfl)) rfl rfl hl.1 rfl (lv_room (Nat.le_of_ble_eq_true rfl)) dX8_appendInput_19 ⟨Nat.le_of_ble_eq_true rfl, Nat.le_of_ble_eq_true rfl⟩) hS (mm_sS hS) (fun H_19 L_19 hB_19 hz_19 hq_19 hS => ?_)
    obtain ⟨I_19, F_19, hT, hx_19, hk_19, he_19, ho_19, hn_19⟩ := hB_19
    refine lv_aload_n hx hb dX8_appendInput_22 rfl (lv_at hl 0 rfl) ?_
    refine lv_iload_n hx hb dX8_appendInput_23 rfl (lv_at hl 2 rfl) ?_
    refine mm_rv (va_runV (As := [.int b]) (rest := []) ⟨hx, hb, hml, hown, hts⟩ (t_appendWord l hT (hk_19) (by omega)) (cwV 1 hts (lw_V q2591 q2593 qs62 q164 q2594) rfl rfl rfl (by decide +kernel) ⟨Nat.le_of_ble_eq_true rfl, Nat.le_of_ble_eq_true rfl⟩) (mm_pV hKK (mm_rc hKK hT.2.1 mm_le.rf rfl)) rfl rfl hl.1 rfl (lv_room (Nat.le_of_ble_eq_true rfl)) dX8_appendInput_24 ⟨Nat.le_of_ble_eq_true rfl, Nat.le_of_ble_eq_true rfl⟩) hS (mm_sS hS) (fun H_24 L_24 hB_24 hz_24 hq_24 hS => ?_)
    obtain ⟨I_24, F_24, hT, hx_24, hk_24, he_24, ho_24, hn_24⟩ := hB_24
    refine lv_aload_n hx hb dX8_appendInput_27 rfl (lv_at hl 0 rfl) ?_
    refine lv_iload_n hx hb dX8_appendInput_28 rfl (lv_at hl 3 rfl) ?_
    refine mm_rv (va_runV (As := [.int v]) (rest := []) ⟨hx, hb, hml, hown, hts⟩ (t_appendWord l hT (hk_24) (by omega)) (cwV 1 hts (lw_V q2591 q2593 qs62 q164 q2594) rfl rfl rfl (by decide +kernel) ⟨Nat.le_of_ble_eq_true rfl, Nat.le_of_ble_eq_true rfl⟩) (mm_pV hKK (mm_rc hKK hT.2.1 mm_le.rf rfl)) rfl rfl hl.1 rfl (lv_room (Nat.le_of_ble_eq_true rfl)) dX8_appendInput_29 ⟨Nat.le_of_ble_eq_true rfl, Nat.le_of_ble_eq_true rfl⟩) hS (mm_sS hS) (fun H_29 L_29 hB_29 hz_29 hq_29 hS => ?_)
    obtain ⟨I_29, F_29, hT, hx_29, hk_29, he_29, ho_29, hn_29⟩ := hB_29
    refine lv_aload_n hx hb dX8_appendInput_32 rfl (lv_at hl 0 rfl) ?_
    refine lv_iload hx hb dX8_appendInput_33 (lv_at hl 4 rfl) ?_
    refine mm_rv (va_runV (As := [.int d]) (rest := []) ⟨hx, hb, hml, hown, hts⟩ (t_appendWord l hT (hk_29) (by omega)) (cwV 1 hts (lw_V q2591 q2593 qs62 q164 q2594) rfl rfl rfl (by decide +kernel) ⟨Nat.le_of_ble_eq_true rfl, Nat.le_of_ble_eq_true rfl⟩) (mm_pV hKK (mm_rc hKK hT.2.1 mm_le.rf rfl)) rfl rfl hl.1 rfl (lv_room (Nat.le_of_ble_eq_true rfl)) dX8_appendInput_35 ⟨Nat.le_of_ble_eq_true rfl, Nat.le_of_ble_eq_true rfl⟩) hS (mm_sS hS) (fun H_35 L_35 hB_35 hz_35 hq_35 hS => ?_)
    obtain ⟨I_35, F_35, hT, hx_35, hk_35, he_35, ho_35, hn_35⟩ := hB_35
    refine lv_aload_n hx hb dX8_appendInput_38 rfl (lv_at hl 0 rfl) ?_
    refine lv_iload hx hb dX8_appendInput_39 (lv_at hl 5 rfl) ?_
    refine mm_rv (va_runV (As := [.int e9]) (rest := []) ⟨hx, hb, hml, hown, hts⟩ (t_appendWord l hT (hk_35) (by omega)) (cwV 1 hts (lw_V q2591 q2593 qs62 q164 q2594) rfl rfl rfl (by decide +kernel) ⟨Nat.le_of_ble_eq_true rfl, Nat.le_of_ble_eq_true rfl⟩) (mm_pV hKK (mm_rc hKK hT.2.1 mm_le.rf rfl)) rfl rfl hl.1 rfl (lv_room (Nat.le_of_ble_eq_true rfl)) dX8_appendInput_41 ⟨Nat.le_of_ble_eq_true rfl, Nat.le_of_ble_eq_true rfl⟩) hS (mm_sS hS) (fun H_41 L_41 hB_41 hz_41 hq_41 hS => ?_)
    obtain ⟨I_41, F_41, hT, hx_41, hk_41, he_41, ho_41, hn_41⟩ := hB_41
    refine lv_aload_n hx hb dX8_appendInput_44 rfl (lv_at hl 0 rfl) ?_
    refine tw_geti 13 (v := nI (k + 20)) hx hb hts hown hKK hT (by decide) rfl (hk_41) (hts _ q2511) dX8_appendInput_45 ?_
    exact mm_iret (v := nI (k + 20)) hx hb hr hlk hS (Nat.le_of_ble_eq_true rfl) (Nat.le_of_ble_eq_true rfl) (⟨by rw [if_neg (by omega)], _, _, hT, by rw [if_neg (by omega)]; exact ⟨hx_19.tr (hx_24.tr (hx_29.tr (hx_35.tr hx_41))), hk_41, he_19.tr (he_24.tr (he_29.tr (he_35.tr he_41))), b5_old ho_19 ho_24 ho_29 ho_35 ho_41, b5_new ho_19 ho_24 ho_29 ho_35 ho_41 hn_19 hn_24 hn_29 hn_35 hn_41⟩⟩) dX8_appendInput_48
  · refine lv_iconst (v := (-1)) hx hb dX8_appendInput_15 (by decide) ?_
    exact mm_iret (v := (-1)) hx hb hr hlk hS (Nat.le_of_ble_eq_true rfl) (Nat.le_of_ble_eq_true rfl) (⟨by rw [if_pos (by omega)], _, F, hT, by rw [if_pos (by omega)]; exact ⟨rfl, rfl⟩⟩) dX8_appendInput_16
set_option maxRecDepth 100000 in
theorem tm_truncateInput (l : Launch) {G : mm_G} {P : mm_H} {H : Heap} {x : Nat} {ad : Nat → Nat} {I : Nat → Int32} {F : Nat → Nat → Int32} {k : Nat} {a : Int32} (hT : TW G x ad I F H) (hk : I 13 = nI k) (hk9 : k ≤ 600) : Mt l yX8_truncateInput (ws_ yX8_truncateInput cX8_truncateInput 2 (some .boolean)) 4 120 0 0 G P [.ref x, .int a] H (tw_M x ad) (mm_i (mm_b (inR a (k + 1))) (fun H2 => TW G x ad (if inR a (k + 1) = true then upd (upd I 6 (nI 0)) 13 a else upd I 6 (nI 0)) F H2)) := by
  refine Mt.of (by decide) (Nat.le_of_ble_eq_true rfl) (fun p e s m below meth c ls hx hb hr hlk hml hown hnm hts hKK hsH hl hS => ?_)
  have hl : lv_has ls 2 [(0, .ref x), (1, .int a)] := hl
  have hMx : mm_A (tw_M x ad) H x := Or.inl (Or.inl rfl)
  have hMa : ∀ j, tw_isA j = true → mm_A (tw_M x ad) H (ad j) := fun j hj => Or.inl (Or.inr ⟨j, hj, rfl⟩)
  refine lv_aload_n hx hb dX8_truncateInput_0 rfl (lv_at hl 0 rfl) ?_
  refine lv_iconst (v := nI 0) hx hb dX8_truncateInput_1 (by decide) ?_
  refine tw_put 6 hx hb hts hown hKK hT hS (hMx) (by decide) rfl (by decide) ⟨rfl, rfl⟩ (hts _ q2504) dX8_truncateInput_2 (fun H_2 L_2 hT hz_2 hq_2 hS => ?_)
  refine lv_iload_n hx hb dX8_truncateInput_5 rfl (lv_at hl 1 rfl) ?_
  refine lv_i2l (v := a.toInt64) hx hb dX8_truncateInput_6 rfl ?_
  refine lv_lconst (v := 0) hx hb dX8_truncateInput_7 (by decide) ?_
  refine lv_aload_n hx hb dX8_truncateInput_8 rfl (lv_at hl 0 rfl) ?_
  refine tw_geti 13 (v := nI k) hx hb hts hown hKK hT (by decide) rfl ((tw_un (by decide)).trans (hk)) (hts _ q2511) dX8_truncateInput_9 ?_
  refine lv_i2l (v := (nI k).toInt64) hx hb dX8_truncateInput_12 rfl ?_
  refine mm_rpu (va_runS (As := [.long a.toInt64, .long 0, .long ((nI k).toInt64)]) (rest := []) ⟨hx, hb, hml, hown, hts⟩ (t_isWithin l ) (va_cwS 3 hts (lw_S q2599 q2600 q164 q2601) rfl rfl rfl (by decide +kernel) ⟨Nat.le_of_ble_eq_true rfl, Nat.le_of_ble_eq_true rfl⟩) (mm_pS hKK) rfl rfl hl.1 rfl (lv_room (Nat.le_of_ble_eq_true rfl)) dX8_truncateInput_13 ⟨Nat.le_of_ble_eq_true rfl, Nat.le_of_ble_eq_true rfl⟩) hS (mm_s0 hS) (fun L_13 hS => ?_)
  refine mm_top (y := mm_b (inR a (k + 1))) (congrArg mm_b (w_inR1 a (by omega))) ?_
  refine mm_ifneB (tgt := 21) hx hb dX8_truncateInput_16 (by decide) (fun c_16 => ?_) (fun c_16 => ?_)
  · refine lv_aload_n hx hb dX8_truncateInput_21 rfl (lv_at hl 0 rfl) ?_
    refine lv_iload_n hx hb dX8_truncateInput_22 rfl (lv_at hl 1 rfl) ?_
    refine tw_put 13 hx hb hts hown hKK hT hS (hMx) (by decide) rfl (by decide) ⟨rfl, rfl⟩ (hts _ q2511) dX8_truncateInput_23 (fun H_23 L_23 hT hz_23 hq_23 hS => ?_)
    refine lv_iconst (v := nI 1) hx hb dX8_truncateInput_26 (by decide) ?_
    exact mm_zret (v := nI 1) hx hb hr hlk hS (Nat.le_of_ble_eq_true rfl) (Nat.le_of_ble_eq_true rfl) (rfl) (⟨by first | exact mm_e1 c_16 | exact mm_e0 c_16, by first | (rw [if_pos c_16]; exact hT) | (rw [if_neg (by rw [c_16]; decide)]; exact hT)⟩) dX8_truncateInput_27
  · refine lv_iconst (v := nI 0) hx hb dX8_truncateInput_19 (by decide) ?_
    exact mm_zret (v := nI 0) hx hb hr hlk hS (Nat.le_of_ble_eq_true rfl) (Nat.le_of_ble_eq_true rfl) (rfl) (⟨by first | exact mm_e1 c_16 | exact mm_e0 c_16, by first | (rw [if_pos c_16]; exact hT) | (rw [if_neg (by rw [c_16]; decide)]; exact hT)⟩) dX8_truncateInput_20
set_option maxRecDepth 100000 in
theorem tm_errorCode (l : Launch) {G : mm_G} {P : mm_H} {H : Heap} {x : Nat} {ad : Nat → Nat} {I : Nat → Int32} {F : Nat → Nat → Int32} (hT : TW G x ad I F H) : Mt l yX8_errorCode (ws_ yX8_errorCode cX8_errorCode 1 (some .int)) 1 40 0 0 G P [.ref x] H (tw_M x ad) (mm_i (I 14) (fun H2 => TW G x ad (upd I 6 (nI 0)) F H2)) := by
  refine Mt.of (by decide) (Nat.le_of_ble_eq_true rfl) (fun p e s m below meth c ls hx hb hr hlk hml hown hnm hts hKK hsH hl hS => ?_)
  have hl : lv_has ls 1 [(0, .ref x)] := hl
  have hMx : mm_A (tw_M x ad) H x := Or.inl (Or.inl rfl)
  have hMa : ∀ j, tw_isA j = true → mm_A (tw_M x ad) H (ad j) := fun j hj => Or.inl (Or.inr ⟨j, hj, rfl⟩)
  refine lv_aload_n hx hb dX8_errorCode_0 rfl (lv_at hl 0 rfl) ?_
  refine lv_iconst (v := nI 0) hx hb dX8_errorCode_1 (by decide) ?_
  refine tw_put 6 hx hb hts hown hKK hT hS (hMx) (by decide) rfl (by decide) ⟨rfl, rfl⟩ (hts _ q2504) dX8_errorCode_2 (fun H_2 L_2 hT hz_2 hq_2 hS => ?_)
  refine lv_aload_n hx hb dX8_errorCode_5 rfl (lv_at hl 0 rfl) ?_
  refine tw_geti 14 (v := I 14) hx hb hts hown hKK hT (by decide) rfl ((tw_un (by decide)).trans (rfl)) (hts _ q2512) dX8_errorCode_6 ?_
  exact mm_iret (v := I 14) hx hb hr hlk hS (Nat.le_of_ble_eq_true rfl) (Nat.le_of_ble_eq_true rfl) (⟨rfl, hT⟩) dX8_errorCode_9
set_option maxRecDepth 100000 in
theorem tm_errorOffset (l : Launch) {G : mm_G} {P : mm_H} {H : Heap} {x : Nat} {ad : Nat → Nat} {I : Nat → Int32} {F : Nat → Nat → Int32} (hT : TW G x ad I F H) : Mt l yX8_errorOffset (ws_ yX8_errorOffset cX8_errorOffset 1 (some .int)) 1 40 0 0 G P [.ref x] H (tw_M x ad) (mm_i (I 15) (fun H2 => TW G x ad (upd I 6 (nI 0)) F H2)) := by
  refine Mt.of (by decide) (Nat.le_of_ble_eq_true rfl) (fun p e s m below meth c ls hx hb hr hlk hml hown hnm hts hKK hsH hl hS => ?_)
  have hl : lv_has ls 1 [(0, .ref x)] := hl
  have hMx : mm_A (tw_M x ad) H x := Or.inl (Or.inl rfl)
  have hMa : ∀ j, tw_isA j = true → mm_A (tw_M x ad) H (ad j) := fun j hj => Or.inl (Or.inr ⟨j, hj, rfl⟩)
  refine lv_aload_n hx hb dX8_errorOffset_0 rfl (lv_at hl 0 rfl) ?_
  refine lv_iconst (v := nI 0) hx hb dX8_errorOffset_1 (by decide) ?_
  refine tw_put 6 hx hb hts hown hKK hT hS (hMx) (by decide) rfl (by decide) ⟨rfl, rfl⟩ (hts _ q2504) dX8_errorOffset_2 (fun H_2 L_2 hT hz_2 hq_2 hS => ?_)
  refine lv_aload_n hx hb dX8_errorOffset_5 rfl (lv_at hl 0 rfl) ?_
  refine tw_geti 15 (v := I 15) hx hb hts hown hKK hT (by decide) rfl ((tw_un (by decide)).trans (rfl)) (hts _ q2513) dX8_errorOffset_6 ?_
  exact mm_iret (v := I 15) hx hb hr hlk hS (Nat.le_of_ble_eq_true rfl) (Nat.le_of_ble_eq_true rfl) (⟨rfl, hT⟩) dX8_errorOffset_9
