/-! the twin: begin (printed by tools/tw9.py) -/
set_option maxRecDepth 100000 in
theorem t_begin (l : Launch) {G : mm_G} {P : mm_H} {H : Heap} {x : Nat} {ad : Nat → Nat} {I : Nat → Int32} {F : Nat → Nat → Int32} {n : Nat} {ev : Nat → Int32} (hT : TW G x ad I F H) (hI9 : I 9 = nI n) (hn : n ≤ 64) (hvl : ∀ i, i < n → F 8 i = ev i) : Mt l yX8_begin (ws_ yX8_begin cX8_begin 4 none) 8 400 0 0 G P [.ref x] H (tw_M x ad) (mm_v (fun H2 => ∃ F2, TW G x ad I F2 H2 ∧ eqx [0, 7, 10] F F2 ∧ TR (F2 0) (begS n ev))) := by
  refine Mt.of (by decide) (Nat.le_of_ble_eq_true rfl) (fun p e s m below meth c ls hx hb hr hlk hml hown hnm hts hKK hsH hl hS => ?_)
  have hl : lv_has ls 4 [(0, .ref x)] := hl
  have hMx : mm_A (tw_M x ad) H x := Or.inl (Or.inl rfl)
  have hMa : ∀ j, tw_isA j = true → mm_A (tw_M x ad) H (ad j) := fun j hj => Or.inl (Or.inr ⟨j, hj, rfl⟩)
  refine lv_aload_n hx hb dX8_begin_0 rfl (lv_at hl 0 rfl) ?_
  refine mm_rv (va_runV (As := []) (rest := []) ⟨hx, hb, hml, hown, hts⟩ (t_clear l hT) (cwV 0 hts (lw_V q2451 q2453 qs55 q164 q2454) rfl rfl rfl (by decide +kernel) ⟨Nat.le_of_ble_eq_true rfl, Nat.le_of_ble_eq_true rfl⟩) (mm_pV hKK (mm_rc hKK hT.2.1 mm_le.rf rfl)) rfl rfl hl.1 rfl (lv_room (Nat.le_of_ble_eq_true rfl)) dX8_begin_1 ⟨Nat.le_of_ble_eq_true rfl, Nat.le_of_ble_eq_true rfl⟩) hS (mm_sS hS) (fun H_1 L_1 hB_1 hz_1 hq_1 hS => ?_)
  obtain ⟨F_1, hT, he_1, hR⟩ := hB_1
  refine lv_aload_n hx hb dX8_begin_4 rfl (lv_at hl 0 rfl) ?_
  refine mm_ri (va_runV (As := []) (rest := []) ⟨hx, hb, hml, hown, hts⟩ (t_makeLeaves l (n := n) (ev := ev) hT hR WF_mt hI9 hn (by decide) (fun i hi => by rw [he_1 8 (by decide)]; exact hvl i hi)) (cwV 0 hts (lw_V q2455 q2457 qs56 q164 q2458) rfl rfl rfl (by decide +kernel) ⟨Nat.le_of_ble_eq_true rfl, Nat.le_of_ble_eq_true rfl⟩) (mm_pV hKK (mm_rc hKK hT.2.1 mm_le.rf rfl)) rfl rfl hl.1 rfl (lv_room (Nat.le_of_ble_eq_true rfl)) dX8_begin_5 ⟨Nat.le_of_ble_eq_true rfl, Nat.le_of_ble_eq_true rfl⟩) hS (mm_sS hS) (fun H_5 L_5 hB_5 hz_5 hq_5 hS => ?_)
  obtain ⟨F_5, hT, he_5, hR, h10⟩ := hB_5
  have hx5 : exN s_mt (lv1 n ev) ∧ s_nn (lv1 n ev) = 0 + (n + 3) / 4 := mkLs_ex true ev n s_mt ((n + 3) / 4)
  have hW5 : WF (lv1 n ev) := mkLs_WF WF_mt (fun h => by cases h) (by show 0 + _ ≤ _; omega)
  refine lv_istore_n (lv' := [(1, .int (nI ((n + 3) / 4))), (0, .ref x)]) hx hb dX8_begin_8 rfl hl (by decide) rfl (fun ls hl => ?_)
  have lp_9 : ∀ (fu : Nat) (k : Nat) (S1 : sp_S) (b9 : Nat) (f9 : Nat) (H1 : Heap) (F1 : Nat → Nat → Int32) (L : List Loc) (ls : Array Slot), f9 < fu → ((f9 = 3 ∧ k ≤ 16 ∧ s_nn S1 ≤ 16) ∨ (f9 = 2 ∧ k ≤ 4 ∧ s_nn S1 ≤ 20) ∨ (f9 = 1 ∧ k ≤ 1 ∧ s_nn S1 ≤ 21)) → (WF S1) → (s_nv S1 = 0) → (b9 + k ≤ s_nn S1) → (bld f9 S1 b9 k = begT n ev) → lv_has ls 4 [(1, .int (nI k)), (0, .ref x)] → (TW G x ad I F1 H1) → (eqx [0, 7, 10] F F1) → (TR (F1 0) S1) → (∀ j, j < k → F1 10 j = nI (b9 + j)) → va_S (mm_A (tw_M x ad) H) H H1 L → W p l e (mm_rm 8 400 0 0) s m ([.ref x] : List Value).toArray below meth c H1 L 0 0 (MQ below (mm_Qc H (tw_M x ad) (mm_v (fun H2 => ∃ F2, TW G x ad I F2 H2 ∧ eqx [0, 7, 10] F F2 ∧ TR (F2 0) (begS n ev)))) ([.ref x] : List Value).toArray s 0 0 (mm_A (tw_M x ad) H)) (F0 m 9 ls []) := by
    intro fu; induction fu with
    | zero => intro k S1 b9 f9 H1 F1 L ls hfu; exact absurd hfu (Nat.not_lt_zero _)
    | succ fu ih =>
      intro k S1 b9 f9 H1 F1 L ls hfu hinv hW hv0 hbk hbd hl hT he hR h10 hS
      have ih_9 := ih
      refine lv_iload_n hx hb dX8_begin_9 rfl (lv_at hl 0 rfl) ?_
      refine lv_iconst (v := nI 1) hx hb dX8_begin_10 (by decide) ?_
      refine mm_icmp_le (tgt := 23) (by omega) (by omega) hx hb dX8_begin_11 (by decide) (fun c_11 => ?_) (fun c_11 => ?_)
      · have hbe : begT n ev = (S1, b9, k) := hbd.symm.trans (bld_le (by omega))
        refine lv_aload_n hx hb dX8_begin_23 rfl (lv_at hl 1 rfl) ?_
        refine lv_iconst (v := (-1)) hx hb dX8_begin_24 (by decide) ?_
        refine lv_aload_n hx hb dX8_begin_25 rfl (lv_at hl 1 rfl) ?_
        refine tw_geti 9 (v := nI n) hx hb hts hown hKK hT (by decide) rfl (hI9) (hts _ q2507) dX8_begin_26 ?_
        refine lv_iload_n hx hb dX8_begin_29 rfl (lv_at hl 0 rfl) ?_
        refine mm_if_ne (tgt := 37) (by omega) hx hb dX8_begin_30 (by decide) (fun c_30 => ?_) (fun c_30 => ?_)
        · refine lv_aload_n hx hb dX8_begin_37 rfl (lv_at hl 1 rfl) ?_
          refine tw_geta 10 hx hb hts hown hKK hT rfl rfl (hts _ q2508) dX8_begin_38 ?_
          refine lv_iconst (v := nI 0) hx hb dX8_begin_41 (by decide) ?_
          refine mm_iald (k := 0) hx hb hKK (hT.2.2 10 rfl) mm_le.rf (by show _ < 64; omega) (by decide) dX8_begin_42 ?_
          refine mm_top (y := nI b9) ((h10 0 (by omega))) ?_
          refine lv_iconst (v := nI 0) hx hb dX8_begin_43 (by decide) ?_
          refine mm_ri (va_runV (As := [.int ((-1)), .int (nI n), .int (nI b9), .int (nI 0)]) (rest := []) ⟨hx, hb, hml, hown, hts⟩ (t_addVersion l (S := S1) (par := none) (root := (some b9)) hT hR hW (by omega) (by omega) (fun r hr => by cases hr) (Nat.zero_le _)) (cwV 4 hts (lw_V q2474 q2476 qs59 q164 q2477) rfl rfl rfl (by decide +kernel) ⟨Nat.le_of_ble_eq_true rfl, Nat.le_of_ble_eq_true rfl⟩) (mm_pV hKK (mm_rc hKK hT.2.1 mm_le.rf rfl)) rfl rfl hl.1 rfl (lv_room (Nat.le_of_ble_eq_true rfl)) dX8_begin_44 ⟨Nat.le_of_ble_eq_true rfl, Nat.le_of_ble_eq_true rfl⟩) hS (mm_sS hS) (fun H_44 L_44 hB_44 hz_44 hq_44 hS => ?_)
          obtain ⟨F_44, hT, he_44, hR⟩ := hB_44
          refine lv_istore_n (lv' := [(2, .int (nI (s_nv S1))), (1, .int (nI k)), (0, .ref x)]) hx hb dX8_begin_47 rfl hl (by decide) rfl (fun ls hl => ?_)
          refine lv_iconst (v := nI 0) hx hb dX8_begin_48 (by decide) ?_
          refine lv_istore_n (lv' := [(3, .int (nI 0)), (2, .int (nI (s_nv S1))), (1, .int (nI k)), (0, .ref x)]) hx hb dX8_begin_49 rfl hl (by decide) rfl (fun ls hl => ?_)
          have lp_50 : ∀ (fu : Nat) (i : Nat) (H3 : Heap) (F3 : Nat → Nat → Int32) (L : List Loc) (ls : Array Slot), n - i < fu → (i ≤ n) → lv_has ls 4 [(3, .int (nI i)), (0, .ref x), (2, .int (nI (s_nv S1)))] → (TW G x ad I F3 H3) → (eqx [0] F_44 F3) → (TR (F3 0) (addV S1 none n (some b9) 0 (fun j => if j < i then ev j else 0))) → va_S (mm_A (tw_M x ad) H) H H3 L → W p l e (mm_rm 8 400 0 0) s m ([.ref x] : List Value).toArray below meth c H3 L 0 0 (MQ below (mm_Qc H (tw_M x ad) (mm_v (fun H2 => ∃ F2, TW G x ad I F2 H2 ∧ eqx [0, 7, 10] F F2 ∧ TR (F2 0) (begS n ev)))) ([.ref x] : List Value).toArray s 0 0 (mm_A (tw_M x ad) H)) (F0 m 50 ls []) := by
            intro fu; induction fu with
            | zero => intro i H3 F3 L ls hfu; exact absurd hfu (Nat.not_lt_zero _)
            | succ fu ih =>
              intro i H3 F3 L ls hfu hi hl hT he3 hR hS
              have ih_50 := ih
              refine lv_iload_n hx hb dX8_begin_50 rfl (lv_at hl 0 rfl) ?_
              refine lv_aload_n hx hb dX8_begin_51 rfl (lv_at hl 1 rfl) ?_
              refine tw_geti 9 (v := nI n) hx hb hts hown hKK hT (by decide) rfl (hI9) (hts _ q2507) dX8_begin_52 ?_
              refine mm_icmp_ge (tgt := 81) (by omega) (by omega) hx hb dX8_begin_55 (by decide) (fun c_55 => ?_) (fun c_55 => ?_)
              · exact mm_vret hx hb hr hlk hS (Nat.le_of_ble_eq_true rfl) (Nat.le_of_ble_eq_true rfl) (⟨rfl, F3, hT, he.tr ((he_44.mono (by decide)).tr (he3.mono (by decide))), by unfold begS; rw [hbe]; show TR (F3 0) (addV S1 none n (if k = 0 then none else some b9) 0 ev); rw [if_neg c_30]; exact TR_addV_congr hR (fun j hj => if_pos (by omega))⟩) dX8_begin_81
              · refine lv_aload_n hx hb dX8_begin_58 rfl (lv_at hl 1 rfl) ?_
                refine tw_geta 0 hx hb hts hown hKK hT rfl rfl (hts _ q2498) dX8_begin_59 ?_
                refine lv_iload_n hx hb dX8_begin_62 rfl (lv_at hl 2 rfl) ?_
                refine mm_rpu (va_runS (As := [.int (nI (s_nv S1))]) (rest := [.ref (ad 0)]) ⟨hx, hb, hml, hown, hts⟩ (t_e l ) (va_cwS 1 hts (lw_S q2491 q2492 q164 q2493) rfl rfl rfl (by decide +kernel) ⟨Nat.le_of_ble_eq_true rfl, Nat.le_of_ble_eq_true rfl⟩) (mm_pS hKK) rfl rfl hl.1 rfl (lv_room (Nat.le_of_ble_eq_true rfl)) dX8_begin_63 ⟨Nat.le_of_ble_eq_true rfl, Nat.le_of_ble_eq_true rfl⟩) hS (mm_s0 hS) (fun L_63 hS => ?_)
                refine lv_iload_n hx hb dX8_begin_66 rfl (lv_at hl 0 rfl) ?_
                refine mm_iadd hx hb dX8_begin_67 ?_
                refine lv_aload_n hx hb dX8_begin_68 rfl (lv_at hl 1 rfl) ?_
                refine tw_geta 8 hx hb hts hown hKK hT rfl rfl (hts _ q2506) dX8_begin_69 ?_
                refine lv_iload_n hx hb dX8_begin_72 rfl (lv_at hl 0 rfl) ?_
                refine mm_iald (k := i) hx hb hKK (hT.2.2 8 rfl) mm_le.rf (by show _ < 64; omega) (by decide) dX8_begin_73 ?_
                refine mm_top (y := ev i) (by rw [he3 8 (by decide), he_44 8 (by decide), he 8 (by decide)]; exact hvl i (by omega)) ?_
                refine tw_st 0 (k := (250 + 64 * (s_nv S1) + i)) hx hb hKK hT hS hMa rfl rfl (by show _ < 4210; omega) dX8_begin_74 (fun H_74 L_74 hT hz_74 hq_74 hS => ?_)
                refine lv_iinc (v := nI (i + 1)) (lv' := [(3, .int (nI (i + 1))), (0, .ref x), (2, .int (nI (s_nv S1)))]) hx hb dX8_begin_75 hl (k := 0) rfl (nI_add _ _) (by decide) rfl (fun ls hl => ?_)
                refine lv_goto (tgt := 50) hx hb dX8_begin_78 (by decide) ?_
                exact ih_50 (i + 1) H_74 ((tw_u F3 0 (250 + 64 * (s_nv S1) + i) (ev i))) _ _ (by omega) (by omega) (lv_sub hl [0, 1, 2] rfl) hT (he3.tr (eqx.u (by decide))) (TR_addV_congr (TR_setE hW (by omega) (by omega) hR) (fun j hj => gE j)) hS
          exact lp_50 _ 0 H_44 F_44 _ _ (Nat.lt_succ_self _) (by omega) (lv_sub hl [0, 3, 1] rfl) hT eqx.rf (TR_addV_congr hR (fun j hj => by rw [if_neg (Nat.not_lt_zero _)]; rfl)) hS
        · refine lv_iconst (v := (-1)) hx hb dX8_begin_33 (by decide) ?_
          refine lv_goto (tgt := 43) hx hb dX8_begin_34 (by decide) ?_
          refine lv_iconst (v := nI 0) hx hb dX8_begin_43 (by decide) ?_
          refine mm_ri (va_runV (As := [.int ((-1)), .int (nI n), .int ((-1)), .int (nI 0)]) (rest := []) ⟨hx, hb, hml, hown, hts⟩ (t_addVersion l (S := S1) (par := none) (root := none) hT hR hW (by omega) (by omega) (fun r hr => by cases hr) (Nat.zero_le _)) (cwV 4 hts (lw_V q2474 q2476 qs59 q164 q2477) rfl rfl rfl (by decide +kernel) ⟨Nat.le_of_ble_eq_true rfl, Nat.le_of_ble_eq_true rfl⟩) (mm_pV hKK (mm_rc hKK hT.2.1 mm_le.rf rfl)) rfl rfl hl.1 rfl (lv_room (Nat.le_of_ble_eq_true rfl)) dX8_begin_44 ⟨Nat.le_of_ble_eq_true rfl, Nat.le_of_ble_eq_true rfl⟩) hS (mm_sS hS) (fun H_44 L_44 hB_44 hz_44 hq_44 hS => ?_)
          obtain ⟨F_44, hT, he_44, hR⟩ := hB_44
          refine lv_istore_n (lv' := [(2, .int (nI (s_nv S1))), (1, .int (nI k)), (0, .ref x)]) hx hb dX8_begin_47 rfl hl (by decide) rfl (fun ls hl => ?_)
          refine lv_iconst (v := nI 0) hx hb dX8_begin_48 (by decide) ?_
          refine lv_istore_n (lv' := [(3, .int (nI 0)), (2, .int (nI (s_nv S1))), (1, .int (nI k)), (0, .ref x)]) hx hb dX8_begin_49 rfl hl (by decide) rfl (fun ls hl => ?_)
          have lp_50 : ∀ (fu : Nat) (i : Nat) (H3 : Heap) (F3 : Nat → Nat → Int32) (L : List Loc) (ls : Array Slot), n - i < fu → (i ≤ n) → lv_has ls 4 [(3, .int (nI i)), (0, .ref x), (2, .int (nI (s_nv S1)))] → (TW G x ad I F3 H3) → (eqx [0] F_44 F3) → (TR (F3 0) (addV S1 none n none 0 (fun j => if j < i then ev j else 0))) → va_S (mm_A (tw_M x ad) H) H H3 L → W p l e (mm_rm 8 400 0 0) s m ([.ref x] : List Value).toArray below meth c H3 L 0 0 (MQ below (mm_Qc H (tw_M x ad) (mm_v (fun H2 => ∃ F2, TW G x ad I F2 H2 ∧ eqx [0, 7, 10] F F2 ∧ TR (F2 0) (begS n ev)))) ([.ref x] : List Value).toArray s 0 0 (mm_A (tw_M x ad) H)) (F0 m 50 ls []) := by
            intro fu; induction fu with
            | zero => intro i H3 F3 L ls hfu; exact absurd hfu (Nat.not_lt_zero _)
            | succ fu ih =>
              intro i H3 F3 L ls hfu hi hl hT he3 hR hS
              have ih_50 := ih
              refine lv_iload_n hx hb dX8_begin_50 rfl (lv_at hl 0 rfl) ?_
              refine lv_aload_n hx hb dX8_begin_51 rfl (lv_at hl 1 rfl) ?_
              refine tw_geti 9 (v := nI n) hx hb hts hown hKK hT (by decide) rfl (hI9) (hts _ q2507) dX8_begin_52 ?_
              refine mm_icmp_ge (tgt := 81) (by omega) (by omega) hx hb dX8_begin_55 (by decide) (fun c_55 => ?_) (fun c_55 => ?_)
              · exact mm_vret hx hb hr hlk hS (Nat.le_of_ble_eq_true rfl) (Nat.le_of_ble_eq_true rfl) (⟨rfl, F3, hT, he.tr ((he_44.mono (by decide)).tr (he3.mono (by decide))), by unfold begS; rw [hbe]; show TR (F3 0) (addV S1 none n (if k = 0 then none else some b9) 0 ev); rw [if_pos c_30]; exact TR_addV_congr hR (fun j hj => if_pos (by omega))⟩) dX8_begin_81
              · refine lv_aload_n hx hb dX8_begin_58 rfl (lv_at hl 1 rfl) ?_
                refine tw_geta 0 hx hb hts hown hKK hT rfl rfl (hts _ q2498) dX8_begin_59 ?_
                refine lv_iload_n hx hb dX8_begin_62 rfl (lv_at hl 2 rfl) ?_
                refine mm_rpu (va_runS (As := [.int (nI (s_nv S1))]) (rest := [.ref (ad 0)]) ⟨hx, hb, hml, hown, hts⟩ (t_e l ) (va_cwS 1 hts (lw_S q2491 q2492 q164 q2493) rfl rfl rfl (by decide +kernel) ⟨Nat.le_of_ble_eq_true rfl, Nat.le_of_ble_eq_true rfl⟩) (mm_pS hKK) rfl rfl hl.1 rfl (lv_room (Nat.le_of_ble_eq_true rfl)) dX8_begin_63 ⟨Nat.le_of_ble_eq_true rfl, Nat.le_of_ble_eq_true rfl⟩) hS (mm_s0 hS) (fun L_63 hS => ?_)
                refine lv_iload_n hx hb dX8_begin_66 rfl (lv_at hl 0 rfl) ?_
                refine mm_iadd hx hb dX8_begin_67 ?_
                refine lv_aload_n hx hb dX8_begin_68 rfl (lv_at hl 1 rfl) ?_
                refine tw_geta 8 hx hb hts hown hKK hT rfl rfl (hts _ q2506) dX8_begin_69 ?_
                refine lv_iload_n hx hb dX8_begin_72 rfl (lv_at hl 0 rfl) ?_
                refine mm_iald (k := i) hx hb hKK (hT.2.2 8 rfl) mm_le.rf (by show _ < 64; omega) (by decide) dX8_begin_73 ?_
                refine mm_top (y := ev i) (by rw [he3 8 (by decide), he_44 8 (by decide), he 8 (by decide)]; exact hvl i (by omega)) ?_
                refine tw_st 0 (k := (250 + 64 * (s_nv S1) + i)) hx hb hKK hT hS hMa rfl rfl (by show _ < 4210; omega) dX8_begin_74 (fun H_74 L_74 hT hz_74 hq_74 hS => ?_)
                refine lv_iinc (v := nI (i + 1)) (lv' := [(3, .int (nI (i + 1))), (0, .ref x), (2, .int (nI (s_nv S1)))]) hx hb dX8_begin_75 hl (k := 0) rfl (nI_add _ _) (by decide) rfl (fun ls hl => ?_)
                refine lv_goto (tgt := 50) hx hb dX8_begin_78 (by decide) ?_
                exact ih_50 (i + 1) H_74 ((tw_u F3 0 (250 + 64 * (s_nv S1) + i) (ev i))) _ _ (by omega) (by omega) (lv_sub hl [0, 1, 2] rfl) hT (he3.tr (eqx.u (by decide))) (TR_addV_congr (TR_setE hW (by omega) (by omega) hR) (fun j hj => gE j)) hS
          exact lp_50 _ 0 H_44 F_44 _ _ (Nat.lt_succ_self _) (by omega) (lv_sub hl [0, 3, 1] rfl) hT eqx.rf (TR_addV_congr hR (fun j hj => by rw [if_neg (Nat.not_lt_zero _)]; rfl)) hS
      · have hx16 := mkLs_ex false (fun j => nI (b9 + j)) k S1 ((k + 3) / 4)
        have hW16 : WF (mkLs false (fun j => nI (b9 + j)) k S1 ((k + 3) / 4)) := mkLs_WF hW (fun _ i hi => ⟨_, by omega, rfl⟩) (by omega)
        refine lv_aload_n hx hb dX8_begin_14 rfl (lv_at hl 1 rfl) ?_
        refine lv_iload_n hx hb dX8_begin_15 rfl (lv_at hl 0 rfl) ?_
        refine mm_ri (va_runV (As := [.int (nI k)]) (rest := []) ⟨hx, hb, hml, hown, hts⟩ (t_makeLevel l (S := S1) (ev := fun j => nI (b9 + j)) hT hR hW (by omega) (by omega) h10 (fun i hi => ⟨_, by omega, rfl⟩)) (cwV 1 hts (lw_V q2470 q2472 qs58 q164 q2473) rfl rfl rfl (by decide +kernel) ⟨Nat.le_of_ble_eq_true rfl, Nat.le_of_ble_eq_true rfl⟩) (mm_pV hKK (mm_rc hKK hT.2.1 mm_le.rf rfl)) rfl rfl hl.1 rfl (lv_room (Nat.le_of_ble_eq_true rfl)) dX8_begin_16 ⟨Nat.le_of_ble_eq_true rfl, Nat.le_of_ble_eq_true rfl⟩) hS (mm_sS hS) (fun H_16 L_16 hB_16 hz_16 hq_16 hS => ?_)
        obtain ⟨F_16, hT, he_16, hR_16, h10_16⟩ := hB_16
        refine lv_istore_n (lv' := [(1, .int (nI ((k + 3) / 4))), (0, .ref x)]) hx hb dX8_begin_19 rfl hl (by decide) rfl (fun ls hl => ?_)
        refine lv_goto (tgt := 9) hx hb dX8_begin_20 (by decide) ?_
        exact ih_9 ((k + 3) / 4) (mkLs false (fun j => nI (b9 + j)) k S1 ((k + 3) / 4)) (s_nn S1) (f9 - 1) H_16 F_16 _ _ (by omega) (by have := hx16.2; rcases hinv with h | h | h; exact Or.inr (Or.inl ⟨by omega, by omega, by omega⟩); exact Or.inr (Or.inr ⟨by omega, by omega, by omega⟩); omega) (hW16) (hx16.1.1.trans hv0) (by rw [hx16.2]; exact Nat.le_refl _) (by rw [← hbd, show f9 = (f9 - 1) + 1 by omega, bld_gt (by omega)]; rfl) (lv_sub hl [0, 1] rfl) hT (he.tr he_16) hR_16 (fun j hj => h10_16 j hj) hS
  exact lp_9 _ ((n + 3) / 4) (lv1 n ev) 0 3 H_5 F_5 _ _ (Nat.lt_succ_self _) (Or.inl ⟨rfl, by omega, by rw [hx5.2]; show 0 + _ ≤ _; omega⟩) (hW5) (hx5.1.1) (by rw [hx5.2]; exact Nat.le_refl _) (rfl) (lv_sub hl [0, 1] rfl) hT ((he_1.mono (by decide)).tr he_5) hR (fun j hj => by rw [h10 j hj]; rfl) hS
