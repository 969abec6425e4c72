/-! the twin: nodes and versions made (printed by tools/tw5.py) -/
set_option maxRecDepth 100000 in
theorem t_takeEntries (l : Launch) {G : mm_G} {P : mm_H} {H : Heap} {x : Nat} {ad : Nat → Nat} {I : Nat → Int32} {F : Nat → Nat → Int32} {S : sp_S} {k cn : Nat} (hT : TW G x ad I F H) (hR : TR (F 0) S) (hW : WF S) (hc4 : cn ≤ 4) (hkc : cn ≠ 0 → k < s_nn S ∧ cn ≤ s_cnt S k) : Mt l yX8_takeEntries (ws_ yX8_takeEntries cX8_takeEntries 4 none) 3 60 0 0 G P [.ref x, .int (nI k), .int (nI cn)] H (tw_M x ad) (mm_v (fun H2 => ∃ F2, TW G x ad I F2 H2 ∧ eqx [7] F F2 ∧ (∀ i, i < cn → F2 7 i = s_ent S k i))) := by
  refine Mt.of (by decide) (Nat.le_of_ble_eq_true rfl) (fun p e s m below meth c ls hx hb hr hlk hml hown hnm hts hKK hsH hl hS => ?_)
  have hl : lv_has ls 4 [(0, .ref x), (1, .int (nI k)), (2, .int (nI cn))] := hl
  have hR0 := hR
  have hMx : mm_A (tw_M x ad) H x := Or.inl (Or.inl rfl)
  have hMa : ∀ j, tw_isA j = true → mm_A (tw_M x ad) H (ad j) := fun j hj => Or.inl (Or.inr ⟨j, hj, rfl⟩)
  have hnv := hW.nv
  have hnn := hW.nn
  refine lv_iconst (v := nI 0) hx hb dX8_takeEntries_0 (by decide) ?_
  refine lv_istore_n (lv' := [(3, .int (nI 0)), (0, .ref x), (1, .int (nI k)), (2, .int (nI cn))]) hx hb dX8_takeEntries_1 rfl hl (by decide) rfl (fun ls hl => ?_)
  have lp_2 : ∀ (fu : Nat) (i : Nat) (H1 : Heap) (F1 : Nat → Nat → Int32) (L : List Loc) (ls : Array Slot), cn - i < fu → (i ≤ cn) → lv_has ls 4 [(3, .int (nI i)), (0, .ref x), (1, .int (nI k)), (2, .int (nI cn))] → (TW G x ad I F1 H1) → (eqx [7] F F1) → (∀ j, j < i → F1 7 j = s_ent S k j) → va_S (mm_A (tw_M x ad) H) H H1 L → W p l e (mm_rm 3 60 0 0) s m ([.ref x, .int (nI k), .int (nI cn)] : List Value).toArray below meth c H1 L 0 0 (MQ below (mm_Qc H (tw_M x ad) (mm_v (fun H2 => ∃ F2, TW G x ad I F2 H2 ∧ eqx [7] F F2 ∧ (∀ i, i < cn → F2 7 i = s_ent S k i)))) ([.ref x, .int (nI k), .int (nI cn)] : List Value).toArray s 0 0 (mm_A (tw_M x ad) H)) (F0 m 2 ls []) := by
    intro fu; induction fu with
    | zero => intro i H1 F1 L ls hfu; exact absurd hfu (Nat.not_lt_zero _)
    | succ fu ih =>
      intro i H1 F1 L ls hfu hi hl hT he h7 hS
      have ih_2 := ih
      have hR := TRx he (by decide) hR0
      refine lv_iload_n hx hb dX8_takeEntries_2 rfl (lv_at hl 0 rfl) ?_
      refine lv_iload_n hx hb dX8_takeEntries_3 rfl (lv_at hl 3 rfl) ?_
      refine mm_icmp_ge (tgt := 25) (by omega) (by omega) hx hb dX8_takeEntries_4 (by decide) (fun c_4 => ?_) (fun c_4 => ?_)
      · exact mm_vret hx hb hr hlk hS (Nat.le_of_ble_eq_true rfl) (Nat.le_of_ble_eq_true rfl) (⟨rfl, F1, hT, he, fun j hj => h7 j (by omega)⟩) dX8_takeEntries_25
      · obtain ⟨hk, hkc9⟩ := hkc (by omega)
        refine lv_aload_n hx hb dX8_takeEntries_7 rfl (lv_at hl 1 rfl) ?_
        refine tw_geta 7 hx hb hts hown hKK hT rfl rfl (hts _ q2505) dX8_takeEntries_8 ?_
        refine lv_iload_n hx hb dX8_takeEntries_11 rfl (lv_at hl 0 rfl) ?_
        refine lv_aload_n hx hb dX8_takeEntries_12 rfl (lv_at hl 1 rfl) ?_
        refine lv_iload_n hx hb dX8_takeEntries_13 rfl (lv_at hl 2 rfl) ?_
        refine lv_iload_n hx hb dX8_takeEntries_14 rfl (lv_at hl 0 rfl) ?_
        refine mm_rpu (va_runV (As := [.int (nI k), .int (nI i)]) (rest := [.int (nI i), .ref (ad 7)]) ⟨hx, hb, hml, hown, hts⟩ (t_entry l hT hR hW (by first | assumption | omega) (by first | assumption | omega)) (cwV 2 hts (lw_V q2753 q2755 qs91 q164 q2756) rfl rfl rfl (by decide +kernel) ⟨Nat.le_of_ble_eq_true rfl, Nat.le_of_ble_eq_true rfl⟩) (mm_pV hKK (mm_rc hKK hT.2.1 mm_le.rf rfl)) rfl rfl hl.1 rfl (lv_room (Nat.le_of_ble_eq_true rfl)) dX8_takeEntries_15 ⟨Nat.le_of_ble_eq_true rfl, Nat.le_of_ble_eq_true rfl⟩) hS (mm_s0 hS) (fun L_15 hS => ?_)
        refine tw_st 7 (k := i) hx hb hKK hT hS hMa rfl rfl (by show _ < 4; omega) dX8_takeEntries_18 (fun H_18 L_18 hT hz_18 hq_18 hS => ?_)
        refine lv_iinc (v := nI (i + 1)) (lv' := [(3, .int (nI (i + 1))), (0, .ref x), (1, .int (nI k)), (2, .int (nI cn))]) hx hb dX8_takeEntries_19 hl (k := 0) rfl (nI_add _ _) (by decide) rfl (fun ls hl => ?_)
        refine lv_goto (tgt := 2) hx hb dX8_takeEntries_22 (by decide) ?_
        exact ih_2 (i + 1) H_18 ((tw_u F1 7 i (s_ent S k i))) _ _ (by omega) (by omega) (lv_sub hl [0, 1, 2, 3] rfl) hT (he.tr (eqx.u (by decide))) (fun j hj => by rw [tw_us]; by_cases z : j = i; rw [z]; exact pk_us; rw [pk_un z]; exact h7 j (by omega)) hS
  exact lp_2 _ 0 H F _ _ (Nat.lt_succ_self _) (by omega) (lv_sub hl [0, 1, 2, 3] rfl) hT eqx.rf (fun j hj => absurd hj (Nat.not_lt_zero _)) hS
set_option maxRecDepth 100000 in
theorem t_makeNode (l : Launch) {G : mm_G} {P : mm_H} {H : Heap} {x : Nat} {ad : Nat → Nat} {I : Nat → Int32} {F : Nat → Nat → Int32} {S : sp_S} {b : Bool} {cn : Nat} (hT : TW G x ad I F H) (hR : TR (F 0) S) (hW : WF S) (hn9 : s_nn S < 190) (hc4 : cn ≤ 4) : Mt l yX8_makeNode (ws_ yX8_makeNode cX8_makeNode 5 (some .int)) 3 80 0 0 G P [.ref x, .int (mm_b b), .int (nI cn)] H (tw_M x ad) (mm_i (nI (s_nn S)) (fun H2 => ∃ F2, TW G x ad I F2 H2 ∧ eqx [0] F F2 ∧ TR (F2 0) (addN S b cn (F 7)))) := by
  refine Mt.of (by decide) (Nat.le_of_ble_eq_true rfl) (fun p e s m below meth c ls hx hb hr hlk hml hown hnm hts hKK hsH hl hS => ?_)
  have hl : lv_has ls 5 [(0, .ref x), (1, .int (mm_b b)), (2, .int (nI cn))] := hl
  have hR0 := hR
  have hMx : mm_A (tw_M x ad) H x := Or.inl (Or.inl rfl)
  have hMa : ∀ j, tw_isA j = true → mm_A (tw_M x ad) H (ad j) := fun j hj => Or.inl (Or.inr ⟨j, hj, rfl⟩)
  have hnv := hW.nv
  have hnn := hW.nn
  refine lv_aload_n hx hb dX8_makeNode_0 rfl (lv_at hl 0 rfl) ?_
  refine tw_geta 0 hx hb hts hown hKK hT rfl rfl (hts _ q2498) dX8_makeNode_1 ?_
  refine lv_iconst (v := nI 1) hx hb dX8_makeNode_4 (by decide) ?_
  refine mm_iald (k := 1) hx hb hKK (hT.2.2 0 rfl) mm_le.rf (by show _ < 4210; omega) (by decide) dX8_makeNode_5 ?_
  refine mm_top (y := nI (s_nn S)) (hR.nn) ?_
  refine lv_istore_n (lv' := [(3, .int (nI (s_nn S))), (0, .ref x), (1, .int (mm_b b)), (2, .int (nI cn))]) hx hb dX8_makeNode_6 rfl hl (by decide) rfl (fun ls hl => ?_)
  refine lv_aload_n hx hb dX8_makeNode_7 rfl (lv_at hl 1 rfl) ?_
  refine tw_geta 0 hx hb hts hown hKK hT rfl rfl (hts _ q2498) dX8_makeNode_8 ?_
  refine lv_iload_n hx hb dX8_makeNode_11 rfl (lv_at hl 0 rfl) ?_
  refine mm_rpu (va_runS (As := [.int (nI (s_nn S))]) (rest := [.ref (ad 0)]) ⟨hx, hb, hml, hown, hts⟩ (t_n l ) (va_cwS 1 hts (lw_S q2464 q2465 q164 q2466) rfl rfl rfl (by decide +kernel) ⟨Nat.le_of_ble_eq_true rfl, Nat.le_of_ble_eq_true rfl⟩) (mm_pS hKK) rfl rfl hl.1 rfl (lv_room (Nat.le_of_ble_eq_true rfl)) dX8_makeNode_12 ⟨Nat.le_of_ble_eq_true rfl, Nat.le_of_ble_eq_true rfl⟩) hS (mm_s0 hS) (fun L_12 hS => ?_)
  refine lv_iconst (v := nI 0) hx hb dX8_makeNode_15 (by decide) ?_
  refine mm_iadd hx hb dX8_makeNode_16 ?_
  refine mm_top (y := nI (2810 + 7 * (s_nn S))) (congrArg nI (by omega)) ?_
  refine lv_iload_n hx hb dX8_makeNode_17 rfl (lv_at hl 2 rfl) ?_
  refine mm_rpu (va_runS (As := [.int (mm_b b)]) (rest := [.int (nI (2810 + 7 * (s_nn S))), .ref (ad 0)]) ⟨hx, hb, hml, hown, hts⟩ (t_one l ) (va_cwS 1 hts (lw_S q2467 q2468 q164 q2469) rfl rfl rfl (by decide +kernel) ⟨Nat.le_of_ble_eq_true rfl, Nat.le_of_ble_eq_true rfl⟩) (mm_pS hKK) rfl rfl hl.1 rfl (lv_room (Nat.le_of_ble_eq_true rfl)) dX8_makeNode_18 ⟨Nat.le_of_ble_eq_true rfl, Nat.le_of_ble_eq_true rfl⟩) hS (mm_s0 hS) (fun L_18 hS => ?_)
  refine tw_st 0 (k := (2810 + 7 * (s_nn S))) hx hb hKK hT hS hMa rfl rfl (by show _ < 4210; omega) dX8_makeNode_21 (fun H_21 L_21 hT hz_21 hq_21 hS => ?_)
  refine lv_aload_n hx hb dX8_makeNode_22 rfl (lv_at hl 1 rfl) ?_
  refine tw_geta 0 hx hb hts hown hKK hT rfl rfl (hts _ q2498) dX8_makeNode_23 ?_
  refine lv_iload_n hx hb dX8_makeNode_26 rfl (lv_at hl 0 rfl) ?_
  refine mm_rpu (va_runS (As := [.int (nI (s_nn S))]) (rest := [.ref (ad 0)]) ⟨hx, hb, hml, hown, hts⟩ (t_n l ) (va_cwS 1 hts (lw_S q2464 q2465 q164 q2466) rfl rfl rfl (by decide +kernel) ⟨Nat.le_of_ble_eq_true rfl, Nat.le_of_ble_eq_true rfl⟩) (mm_pS hKK) rfl rfl hl.1 rfl (lv_room (Nat.le_of_ble_eq_true rfl)) dX8_makeNode_27 ⟨Nat.le_of_ble_eq_true rfl, Nat.le_of_ble_eq_true rfl⟩) hS (mm_s0 hS) (fun L_27 hS => ?_)
  refine lv_iconst (v := nI 1) hx hb dX8_makeNode_30 (by decide) ?_
  refine mm_iadd hx hb dX8_makeNode_31 ?_
  refine lv_iload_n hx hb dX8_makeNode_32 rfl (lv_at hl 3 rfl) ?_
  refine tw_st 0 (k := (2810 + 7 * (s_nn S) + 1)) hx hb hKK hT hS hMa rfl rfl (by show _ < 4210; omega) dX8_makeNode_33 (fun H_33 L_33 hT hz_33 hq_33 hS => ?_)
  refine lv_iconst (v := nI 0) hx hb dX8_makeNode_34 (by decide) ?_
  refine lv_istore (lv' := [(4, .int (nI 0)), (3, .int (nI (s_nn S))), (0, .ref x), (1, .int (mm_b b)), (2, .int (nI cn))]) hx hb dX8_makeNode_35 hl (by decide) rfl (fun ls hl => ?_)
  have lp_37 : ∀ (fu : Nat) (i : Nat) (H1 : Heap) (F1 : Nat → Nat → Int32) (L : List Loc) (ls : Array Slot), 4 - i < fu → (i ≤ 4) → lv_has ls 5 [(4, .int (nI i)), (0, .ref x), (1, .int (mm_b b)), (2, .int (nI cn)), (3, .int (nI (s_nn S)))] → (TW G x ad I F1 H1) → (eqx [0] F F1) → (∀ j, (j < 2810 + 7 * s_nn S ∨ 2810 + 7 * s_nn S + 7 ≤ j) → F1 0 j = F 0 j) → (F1 0 (2810 + 7 * s_nn S) = mm_b b) → (F1 0 (2810 + 7 * s_nn S + 1) = nI cn) → (∀ j, j < i → j < cn → F1 0 (2810 + 7 * s_nn S + 2 + j) = F 7 j) → va_S (mm_A (tw_M x ad) H) H H1 L → W p l e (mm_rm 3 80 0 0) s m ([.ref x, .int (mm_b b), .int (nI cn)] : List Value).toArray below meth c H1 L 0 0 (MQ below (mm_Qc H (tw_M x ad) (mm_i (nI (s_nn S)) (fun H2 => ∃ F2, TW G x ad I F2 H2 ∧ eqx [0] F F2 ∧ TR (F2 0) (addN S b cn (F 7))))) ([.ref x, .int (mm_b b), .int (nI cn)] : List Value).toArray s 0 0 (mm_A (tw_M x ad) H)) (F0 m 37 ls []) := by
    intro fu; induction fu with
    | zero => intro i H1 F1 L ls hfu; exact absurd hfu (Nat.not_lt_zero _)
    | succ fu ih =>
      intro i H1 F1 L ls hfu hi hl hT he h0 hlf hcn hen hS
      have ih_37 := ih
      refine lv_iload hx hb dX8_makeNode_37 (lv_at hl 0 rfl) ?_
      refine lv_iconst (v := nI 4) hx hb dX8_makeNode_39 (by decide) ?_
      refine mm_icmp_ge (tgt := 80) (by omega) (by omega) hx hb dX8_makeNode_40 (by decide) (fun c_40 => ?_) (fun c_40 => ?_)
      · refine lv_aload_n hx hb dX8_makeNode_80 rfl (lv_at hl 1 rfl) ?_
        refine tw_geta 0 hx hb hts hown hKK hT rfl rfl (hts _ q2498) dX8_makeNode_81 ?_
        refine lv_iload_n hx hb dX8_makeNode_84 rfl (lv_at hl 4 rfl) ?_
        refine mm_rpu (va_runS (As := [.int (nI (s_nn S))]) (rest := [.ref (ad 0)]) ⟨hx, hb, hml, hown, hts⟩ (t_n l ) (va_cwS 1 hts (lw_S q2464 q2465 q164 q2466) rfl rfl rfl (by decide +kernel) ⟨Nat.le_of_ble_eq_true rfl, Nat.le_of_ble_eq_true rfl⟩) (mm_pS hKK) rfl rfl hl.1 rfl (lv_room (Nat.le_of_ble_eq_true rfl)) dX8_makeNode_85 ⟨Nat.le_of_ble_eq_true rfl, Nat.le_of_ble_eq_true rfl⟩) hS (mm_s0 hS) (fun L_85 hS => ?_)
        refine lv_bipush (v := nI 6) hx hb dX8_makeNode_88 (by decide) ?_
        refine mm_iadd hx hb dX8_makeNode_90 ?_
        refine lv_iconst (v := nI 1) hx hb dX8_makeNode_91 (by decide) ?_
        refine tw_st 0 (k := (2810 + 7 * (s_nn S) + 6)) hx hb hKK hT hS hMa rfl rfl (by show _ < 4210; omega) dX8_makeNode_92 (fun H_92 L_92 hT hz_92 hq_92 hS => ?_)
        refine lv_aload_n hx hb dX8_makeNode_93 rfl (lv_at hl 1 rfl) ?_
        refine tw_geta 0 hx hb hts hown hKK hT rfl rfl (hts _ q2498) dX8_makeNode_94 ?_
        refine lv_iconst (v := nI 1) hx hb dX8_makeNode_97 (by decide) ?_
        refine lv_dup2_11 hx hb dX8_makeNode_98 rfl rfl ?_
        refine mm_iald (k := 1) hx hb hKK (hT.2.2 0 rfl) mm_le.rf (by show _ < 4210; omega) (by decide) dX8_makeNode_99 ?_
        refine mm_top (y := nI (s_nn S)) (by rw [tw_us, pk_un (by omega)]; exact (h0 1 (Or.inl (by omega))).trans hR.nn) ?_
        refine lv_iconst (v := nI 1) hx hb dX8_makeNode_100 (by decide) ?_
        refine mm_iadd hx hb dX8_makeNode_101 ?_
        refine tw_st 0 (k := 1) hx hb hKK hT hS hMa rfl rfl (by show _ < 4210; omega) dX8_makeNode_102 (fun H_102 L_102 hT hz_102 hq_102 hS => ?_)
        refine lv_iload_n hx hb dX8_makeNode_103 rfl (lv_at hl 4 rfl) ?_
        exact mm_iret (v := nI (s_nn S)) hx hb hr hlk hS (Nat.le_of_ble_eq_true rfl) (Nat.le_of_ble_eq_true rfl) (⟨rfl, _, hT, he.tr ((eqx.u (by decide)).tr (eqx.u (by decide))), mk_TR hR hW hc4 h0 hlf hcn (fun j hj => hen j (by omega) hj)⟩) dX8_makeNode_104
      · refine lv_aload_n hx hb dX8_makeNode_43 rfl (lv_at hl 1 rfl) ?_
        refine tw_geta 0 hx hb hts hown hKK hT rfl rfl (hts _ q2498) dX8_makeNode_44 ?_
        refine lv_iload_n hx hb dX8_makeNode_47 rfl (lv_at hl 4 rfl) ?_
        refine mm_rpu (va_runS (As := [.int (nI (s_nn S))]) (rest := [.ref (ad 0)]) ⟨hx, hb, hml, hown, hts⟩ (t_n l ) (va_cwS 1 hts (lw_S q2464 q2465 q164 q2466) rfl rfl rfl (by decide +kernel) ⟨Nat.le_of_ble_eq_true rfl, Nat.le_of_ble_eq_true rfl⟩) (mm_pS hKK) rfl rfl hl.1 rfl (lv_room (Nat.le_of_ble_eq_true rfl)) dX8_makeNode_48 ⟨Nat.le_of_ble_eq_true rfl, Nat.le_of_ble_eq_true rfl⟩) hS (mm_s0 hS) (fun L_48 hS => ?_)
        refine lv_iconst (v := nI 2) hx hb dX8_makeNode_51 (by decide) ?_
        refine mm_iadd hx hb dX8_makeNode_52 ?_
        refine lv_iload hx hb dX8_makeNode_53 (lv_at hl 0 rfl) ?_
        refine mm_iadd hx hb dX8_makeNode_55 ?_
        refine lv_iload hx hb dX8_makeNode_56 (lv_at hl 0 rfl) ?_
        refine lv_iload_n hx hb dX8_makeNode_58 rfl (lv_at hl 3 rfl) ?_
        refine mm_icmp_ge (tgt := 72) (by omega) (by omega) hx hb dX8_makeNode_59 (by decide) (fun c_59 => ?_) (fun c_59 => ?_)
        · refine lv_iconst (v := nI 0) hx hb dX8_makeNode_72 (by decide) ?_
          refine tw_st 0 (k := (2810 + 7 * (s_nn S) + 2 + i)) hx hb hKK hT hS hMa rfl rfl (by show _ < 4210; omega) dX8_makeNode_73 (fun H_73 L_73 hT hz_73 hq_73 hS => ?_)
          refine lv_iinc (v := nI (i + 1)) (lv' := [(4, .int (nI (i + 1))), (0, .ref x), (1, .int (mm_b b)), (2, .int (nI cn)), (3, .int (nI (s_nn S)))]) hx hb dX8_makeNode_74 hl (k := 0) rfl (nI_add _ _) (by decide) rfl (fun ls hl => ?_)
          refine lv_goto (tgt := 37) hx hb dX8_makeNode_77 (by decide) ?_
          exact ih_37 (i + 1) H_73 ((tw_u F1 0 (2810 + 7 * (s_nn S) + 2 + i) (nI 0))) _ _ (by omega) (by omega) (lv_sub hl [0, 1, 2, 3, 4] rfl) hT (he.tr (eqx.u (by decide))) (fun j hj => by rw [tw_us, pk_un (by omega)]; exact h0 j hj) (by rw [tw_us, pk_un (by omega)]; exact hlf) (by rw [tw_us, pk_un (by omega)]; exact hcn) (fun j hj hjc => by rw [tw_us]; by_cases z : j = i; omega; rw [pk_un (by omega)]; exact hen j (by omega) hjc) hS
        · refine lv_aload_n hx hb dX8_makeNode_62 rfl (lv_at hl 1 rfl) ?_
          refine tw_geta 7 hx hb hts hown hKK hT rfl rfl (hts _ q2505) dX8_makeNode_63 ?_
          refine lv_iload hx hb dX8_makeNode_66 (lv_at hl 0 rfl) ?_
          refine mm_iald (k := i) hx hb hKK (hT.2.2 7 rfl) mm_le.rf (by show _ < 4; omega) (by decide) dX8_makeNode_68 ?_
          refine mm_top (y := F 7 i) (congrFun (he 7 (by decide)) _) ?_
          refine lv_goto (tgt := 73) hx hb dX8_makeNode_69 (by decide) ?_
          refine tw_st 0 (k := (2810 + 7 * (s_nn S) + 2 + i)) hx hb hKK hT hS hMa rfl rfl (by show _ < 4210; omega) dX8_makeNode_73 (fun H_73 L_73 hT hz_73 hq_73 hS => ?_)
          refine lv_iinc (v := nI (i + 1)) (lv' := [(4, .int (nI (i + 1))), (0, .ref x), (1, .int (mm_b b)), (2, .int (nI cn)), (3, .int (nI (s_nn S)))]) hx hb dX8_makeNode_74 hl (k := 0) rfl (nI_add _ _) (by decide) rfl (fun ls hl => ?_)
          refine lv_goto (tgt := 37) hx hb dX8_makeNode_77 (by decide) ?_
          exact ih_37 (i + 1) H_73 ((tw_u F1 0 (2810 + 7 * (s_nn S) + 2 + i) (F 7 i))) _ _ (by omega) (by omega) (lv_sub hl [0, 1, 2, 3, 4] rfl) hT (he.tr (eqx.u (by decide))) (fun j hj => by rw [tw_us, pk_un (by omega)]; exact h0 j hj) (by rw [tw_us, pk_un (by omega)]; exact hlf) (by rw [tw_us, pk_un (by omega)]; exact hcn) (fun j hj hjc => by rw [tw_us]; by_cases z : j = i; rw [z]; exact pk_us; rw [pk_un (by omega)]; exact hen j (by omega) hjc) hS
  exact lp_37 _ 0 H_33 ((tw_u (tw_u F 0 (2810 + 7 * (s_nn S)) (mm_b b)) 0 (2810 + 7 * (s_nn S) + 1) (nI cn))) _ _ (Nat.lt_succ_self _) (by omega) (lv_sub hl [0, 2, 3, 4, 1] rfl) hT ((eqx.u (by decide)).tr (eqx.u (by decide))) (fun j hj => by rw [tw_us, pk_un (by omega), tw_us, pk_un (by omega)]) (by rw [tw_us, pk_un (by omega), tw_us]; exact pk_us) (by rw [tw_us]; exact pk_us) (fun j hj _ => absurd hj (Nat.not_lt_zero _)) hS
set_option maxRecDepth 100000 in
theorem t_remakeN (l : Launch) {G : mm_G} {P : mm_H} {H : Heap} {x : Nat} {ad : Nat → Nat} {I : Nat → Int32} {F : Nat → Nat → Int32} {S : sp_S} {r pos : Nat} {its : Int32} {la lf : Bool} (hT : TW G x ad I F H) (hR : TR (F 0) S) (hW : WF S) (hn9 : s_nn S < 190) (hp4 : pos < 4) (hr9 : r < s_nn S) (hpo : pos ≤ s_cnt S r ∨ la = false) : Mt l yX8_remake (ws_ yX8_remake cX8_remake 7 (some .int)) 4 140 0 0 G P [.ref x, .int (nI r), .int (nI pos), .int its, .int (mm_b la), .int (mm_b lf)] H (tw_M x ad) (mm_i (nI (s_nn S)) (fun H2 => ∃ F2, TW G x ad I F2 H2 ∧ eqx [0, 7] F F2 ∧ TR (F2 0) (addN S lf (if la = true then pos + 1 else cntO S (some r)) (fun i => if i = pos then its else entO S (some r) i)))) := by
  refine Mt.of (by decide) (Nat.le_of_ble_eq_true rfl) (fun p e s m below meth c ls hx hb hr hlk hml hown hnm hts hKK hsH hl hS => ?_)
  have hl : lv_has ls 7 [(0, .ref x), (1, .int (nI r)), (2, .int (nI pos)), (3, .int its), (4, .int (mm_b la)), (5, .int (mm_b lf))] := hl
  have hR0 := hR
  have hMx : mm_A (tw_M x ad) H x := Or.inl (Or.inl rfl)
  have hMa : ∀ j, tw_isA j = true → mm_A (tw_M x ad) H (ad j) := fun j hj => Or.inl (Or.inr ⟨j, hj, rfl⟩)
  have hnv := hW.nv
  have hnn := hW.nn
  have hcr := hW.cnt hr9
  refine lv_iload_n hx hb dX8_remake_0 rfl (lv_at hl 1 rfl) ?_
  refine lv_iconst (v := (-1)) hx hb dX8_remake_1 (by decide) ?_
  refine lv_icmp_ne (tgt := 9) hx hb dX8_remake_2 (by decide) (fun c_2 => ?_) (fun c_2 => ?_)
  · refine lv_aload_n hx hb dX8_remake_9 rfl (lv_at hl 0 rfl) ?_
    refine lv_iload_n hx hb dX8_remake_10 rfl (lv_at hl 1 rfl) ?_
    refine mm_rpu (va_runV (As := [.int (nI r)]) (rest := []) ⟨hx, hb, hml, hown, hts⟩ (t_countOf l hT hR hW (by first | assumption | omega)) (cwV 1 hts (lw_V q2745 q2747 qs89 q164 q2748) rfl rfl rfl (by decide +kernel) ⟨Nat.le_of_ble_eq_true rfl, Nat.le_of_ble_eq_true rfl⟩) (mm_pV hKK (mm_rc hKK hT.2.1 mm_le.rf rfl)) rfl rfl hl.1 rfl (lv_room (Nat.le_of_ble_eq_true rfl)) dX8_remake_11 ⟨Nat.le_of_ble_eq_true rfl, Nat.le_of_ble_eq_true rfl⟩) hS (mm_s0 hS) (fun L_11 hS => ?_)
    refine lv_istore (lv' := [(6, .int (nI (s_cnt S r))), (0, .ref x), (1, .int (nI r)), (2, .int (nI pos)), (3, .int its), (4, .int (mm_b la)), (5, .int (mm_b lf))]) hx hb dX8_remake_14 hl (by decide) rfl (fun ls hl => ?_)
    refine lv_aload_n hx hb dX8_remake_16 rfl (lv_at hl 1 rfl) ?_
    refine lv_iload_n hx hb dX8_remake_17 rfl (lv_at hl 2 rfl) ?_
    refine lv_iconst (v := (-1)) hx hb dX8_remake_18 (by decide) ?_
    refine lv_icmp_ne (tgt := 26) hx hb dX8_remake_19 (by decide) (fun c_19 => ?_) (fun c_19 => ?_)
    · refine lv_iload_n hx hb dX8_remake_26 rfl (lv_at hl 2 rfl) ?_
      refine lv_iload hx hb dX8_remake_27 (lv_at hl 0 rfl) ?_
      refine mm_rv (va_runV (As := [.int (nI r), .int (nI (s_cnt S r))]) (rest := []) ⟨hx, hb, hml, hown, hts⟩ (t_takeEntries l hT hR hW hcr (fun _ => ⟨hr9, Nat.le_refl _⟩)) (cwV 2 hts (lw_V q2749 q2751 qs90 q164 q2752) rfl rfl rfl (by decide +kernel) ⟨Nat.le_of_ble_eq_true rfl, Nat.le_of_ble_eq_true rfl⟩) (mm_pV hKK (mm_rc hKK hT.2.1 mm_le.rf rfl)) rfl rfl hl.1 rfl (lv_room (Nat.le_of_ble_eq_true rfl)) dX8_remake_29 ⟨Nat.le_of_ble_eq_true rfl, Nat.le_of_ble_eq_true rfl⟩) hS (mm_sS hS) (fun H_29 L_29 hB_29 hz_29 hq_29 hS => ?_)
      obtain ⟨F_29, hT, he_29, h7_29⟩ := hB_29
      have hR := TRx he_29 (by decide) hR
      refine lv_aload_n hx hb dX8_remake_32 rfl (lv_at hl 1 rfl) ?_
      refine tw_geta 7 hx hb hts hown hKK hT rfl rfl (hts _ q2505) dX8_remake_33 ?_
      refine lv_iload_n hx hb dX8_remake_36 rfl (lv_at hl 3 rfl) ?_
      refine lv_iload_n hx hb dX8_remake_37 rfl (lv_at hl 4 rfl) ?_
      refine tw_st 7 (k := pos) hx hb hKK hT hS hMa rfl rfl (by show _ < 4; omega) dX8_remake_38 (fun H_38 L_38 hT hz_38 hq_38 hS => ?_)
      have hR : TR (tw_u F_29 7 pos its 0) S := TRu (by decide) hR
      refine lv_aload_n hx hb dX8_remake_39 rfl (lv_at hl 1 rfl) ?_
      refine lv_iload hx hb dX8_remake_40 (lv_at hl 6 rfl) ?_
      refine lv_iload hx hb dX8_remake_42 (lv_at hl 5 rfl) ?_
      refine mm_ifeqB (tgt := 53) hx hb dX8_remake_44 (by decide) (fun c_44 => ?_) (fun c_44 => ?_)
      · refine lv_iload hx hb dX8_remake_53 (lv_at hl 0 rfl) ?_
        refine mm_ri (va_runV (As := [.int (mm_b lf), .int (nI (s_cnt S r))]) (rest := []) ⟨hx, hb, hml, hown, hts⟩ (t_makeNode l hT hR hW hn9 (by omega)) (cwV 2 hts (lw_V q2460 q2462 qs57 q164 q2463) rfl rfl rfl (by decide +kernel) ⟨Nat.le_of_ble_eq_true rfl, Nat.le_of_ble_eq_true rfl⟩) (mm_pV hKK (mm_rc hKK hT.2.1 mm_le.rf rfl)) rfl rfl hl.1 rfl (lv_room (Nat.le_of_ble_eq_true rfl)) dX8_remake_55 ⟨Nat.le_of_ble_eq_true rfl, Nat.le_of_ble_eq_true rfl⟩) hS (mm_sS hS) (fun H_55 L_55 hB_55 hz_55 hq_55 hS => ?_)
        obtain ⟨F_55, hT, he_55, hR_55⟩ := hB_55
        exact mm_iret (v := nI (s_nn S)) hx hb hr hlk hS (Nat.le_of_ble_eq_true rfl) (Nat.le_of_ble_eq_true rfl) (⟨rfl, F_55, hT, (he_29.mono (by decide)).tr ((eqx.u (by decide)).tr (he_55.mono (by decide))), by rw [c_44]; exact TR_addN_congr hR_55 (fun i (hi : i < s_cnt S r) => rem_e h7_29 (by omega))⟩) dX8_remake_58
      · refine lv_iload_n hx hb dX8_remake_47 rfl (lv_at hl 3 rfl) ?_
        refine lv_iconst (v := nI 1) hx hb dX8_remake_48 (by decide) ?_
        refine mm_iadd hx hb dX8_remake_49 ?_
        refine lv_goto (tgt := 55) hx hb dX8_remake_50 (by decide) ?_
        refine mm_ri (va_runV (As := [.int (mm_b lf), .int (nI (pos + 1))]) (rest := []) ⟨hx, hb, hml, hown, hts⟩ (t_makeNode l hT hR hW hn9 (by omega)) (cwV 2 hts (lw_V q2460 q2462 qs57 q164 q2463) rfl rfl rfl (by decide +kernel) ⟨Nat.le_of_ble_eq_true rfl, Nat.le_of_ble_eq_true rfl⟩) (mm_pV hKK (mm_rc hKK hT.2.1 mm_le.rf rfl)) rfl rfl hl.1 rfl (lv_room (Nat.le_of_ble_eq_true rfl)) dX8_remake_55 ⟨Nat.le_of_ble_eq_true rfl, Nat.le_of_ble_eq_true rfl⟩) hS (mm_sS hS) (fun H_55 L_55 hB_55 hz_55 hq_55 hS => ?_)
        obtain ⟨F_55, hT, he_55, hR_55⟩ := hB_55
        exact mm_iret (v := nI (s_nn S)) hx hb hr hlk hS (Nat.le_of_ble_eq_true rfl) (Nat.le_of_ble_eq_true rfl) (⟨rfl, F_55, hT, (he_29.mono (by decide)).tr ((eqx.u (by decide)).tr (he_55.mono (by decide))), by rw [c_44]; exact TR_addN_congr hR_55 (fun i (hi : i < pos + 1) => rem_e h7_29 (by have hq8 := hpo.resolve_right (by rw [c_44]; decide); omega))⟩) dX8_remake_58
    · exact absurd c_19 (nI_nm1 (by omega))
  · exact absurd c_2 (nI_nm1 (by omega))
set_option maxRecDepth 100000 in
theorem t_remake0 (l : Launch) {G : mm_G} {P : mm_H} {H : Heap} {x : Nat} {ad : Nat → Nat} {I : Nat → Int32} {F : Nat → Nat → Int32} {S : sp_S} {pos : Nat} {its : Int32} {la lf : Bool} (hT : TW G x ad I F H) (hR : TR (F 0) S) (hW : WF S) (hn9 : s_nn S < 190) (hp4 : pos < 4) (hpo : pos ≤ 0 ∨ la = false) : Mt l yX8_remake (ws_ yX8_remake cX8_remake 7 (some .int)) 4 140 0 0 G P [.ref x, .int ((-1)), .int (nI pos), .int its, .int (mm_b la), .int (mm_b lf)] H (tw_M x ad) (mm_i (nI (s_nn S)) (fun H2 => ∃ F2, TW G x ad I F2 H2 ∧ eqx [0, 7] F F2 ∧ TR (F2 0) (addN S lf (if la = true then pos + 1 else cntO S (none)) (fun i => if i = pos then its else entO S (none) i)))) := by
  refine Mt.of (by decide) (Nat.le_of_ble_eq_true rfl) (fun p e s m below meth c ls hx hb hr hlk hml hown hnm hts hKK hsH hl hS => ?_)
  have hl : lv_has ls 7 [(0, .ref x), (1, .int ((-1))), (2, .int (nI pos)), (3, .int its), (4, .int (mm_b la)), (5, .int (mm_b lf))] := hl
  have hR0 := hR
  have hMx : mm_A (tw_M x ad) H x := Or.inl (Or.inl rfl)
  have hMa : ∀ j, tw_isA j = true → mm_A (tw_M x ad) H (ad j) := fun j hj => Or.inl (Or.inr ⟨j, hj, rfl⟩)
  have hnv := hW.nv
  have hnn := hW.nn
  refine lv_iload_n hx hb dX8_remake_0 rfl (lv_at hl 1 rfl) ?_
  refine lv_iconst (v := (-1)) hx hb dX8_remake_1 (by decide) ?_
  refine lv_icmp_ne (tgt := 9) hx hb dX8_remake_2 (by decide) (fun c_2 => ?_) (fun c_2 => ?_)
  · exact absurd rfl c_2
  · refine lv_iconst (v := nI 0) hx hb dX8_remake_5 (by decide) ?_
    refine lv_goto (tgt := 14) hx hb dX8_remake_6 (by decide) ?_
    refine lv_istore (lv' := [(6, .int (nI 0)), (0, .ref x), (1, .int ((-1))), (2, .int (nI pos)), (3, .int its), (4, .int (mm_b la)), (5, .int (mm_b lf))]) hx hb dX8_remake_14 hl (by decide) rfl (fun ls hl => ?_)
    refine lv_aload_n hx hb dX8_remake_16 rfl (lv_at hl 1 rfl) ?_
    refine lv_iload_n hx hb dX8_remake_17 rfl (lv_at hl 2 rfl) ?_
    refine lv_iconst (v := (-1)) hx hb dX8_remake_18 (by decide) ?_
    refine lv_icmp_ne (tgt := 26) hx hb dX8_remake_19 (by decide) (fun c_19 => ?_) (fun c_19 => ?_)
    · exact absurd rfl c_19
    · refine lv_iconst (v := nI 0) hx hb dX8_remake_22 (by decide) ?_
      refine lv_goto (tgt := 27) hx hb dX8_remake_23 (by decide) ?_
      refine lv_iload hx hb dX8_remake_27 (lv_at hl 0 rfl) ?_
      refine mm_rv (va_runV (As := [.int (nI 0), .int (nI 0)]) (rest := []) ⟨hx, hb, hml, hown, hts⟩ (t_takeEntries l hT hR hW (by omega) (fun z => absurd rfl z)) (cwV 2 hts (lw_V q2749 q2751 qs90 q164 q2752) rfl rfl rfl (by decide +kernel) ⟨Nat.le_of_ble_eq_true rfl, Nat.le_of_ble_eq_true rfl⟩) (mm_pV hKK (mm_rc hKK hT.2.1 mm_le.rf rfl)) rfl rfl hl.1 rfl (lv_room (Nat.le_of_ble_eq_true rfl)) dX8_remake_29 ⟨Nat.le_of_ble_eq_true rfl, Nat.le_of_ble_eq_true rfl⟩) hS (mm_sS hS) (fun H_29 L_29 hB_29 hz_29 hq_29 hS => ?_)
      obtain ⟨F_29, hT, he_29, h7_29⟩ := hB_29
      have hR := TRx he_29 (by decide) hR
      refine lv_aload_n hx hb dX8_remake_32 rfl (lv_at hl 1 rfl) ?_
      refine tw_geta 7 hx hb hts hown hKK hT rfl rfl (hts _ q2505) dX8_remake_33 ?_
      refine lv_iload_n hx hb dX8_remake_36 rfl (lv_at hl 3 rfl) ?_
      refine lv_iload_n hx hb dX8_remake_37 rfl (lv_at hl 4 rfl) ?_
      refine tw_st 7 (k := pos) hx hb hKK hT hS hMa rfl rfl (by show _ < 4; omega) dX8_remake_38 (fun H_38 L_38 hT hz_38 hq_38 hS => ?_)
      have hR : TR (tw_u F_29 7 pos its 0) S := TRu (by decide) hR
      have h7_29 : ∀ i, i < 0 → F_29 7 i = entO S none i := fun i hi => absurd hi (Nat.not_lt_zero _)
      refine lv_aload_n hx hb dX8_remake_39 rfl (lv_at hl 1 rfl) ?_
      refine lv_iload hx hb dX8_remake_40 (lv_at hl 6 rfl) ?_
      refine lv_iload hx hb dX8_remake_42 (lv_at hl 5 rfl) ?_
      refine mm_ifeqB (tgt := 53) hx hb dX8_remake_44 (by decide) (fun c_44 => ?_) (fun c_44 => ?_)
      · refine lv_iload hx hb dX8_remake_53 (lv_at hl 0 rfl) ?_
        refine mm_ri (va_runV (As := [.int (mm_b lf), .int (nI 0)]) (rest := []) ⟨hx, hb, hml, hown, hts⟩ (t_makeNode l hT hR hW hn9 (by omega)) (cwV 2 hts (lw_V q2460 q2462 qs57 q164 q2463) rfl rfl rfl (by decide +kernel) ⟨Nat.le_of_ble_eq_true rfl, Nat.le_of_ble_eq_true rfl⟩) (mm_pV hKK (mm_rc hKK hT.2.1 mm_le.rf rfl)) rfl rfl hl.1 rfl (lv_room (Nat.le_of_ble_eq_true rfl)) dX8_remake_55 ⟨Nat.le_of_ble_eq_true rfl, Nat.le_of_ble_eq_true rfl⟩) hS (mm_sS hS) (fun H_55 L_55 hB_55 hz_55 hq_55 hS => ?_)
        obtain ⟨F_55, hT, he_55, hR_55⟩ := hB_55
        exact mm_iret (v := nI (s_nn S)) hx hb hr hlk hS (Nat.le_of_ble_eq_true rfl) (Nat.le_of_ble_eq_true rfl) (⟨rfl, F_55, hT, (he_29.mono (by decide)).tr ((eqx.u (by decide)).tr (he_55.mono (by decide))), by rw [c_44]; exact TR_addN_congr hR_55 (fun i (hi : i < 0) => rem_e h7_29 (by omega))⟩) dX8_remake_58
      · refine lv_iload_n hx hb dX8_remake_47 rfl (lv_at hl 3 rfl) ?_
        refine lv_iconst (v := nI 1) hx hb dX8_remake_48 (by decide) ?_
        refine mm_iadd hx hb dX8_remake_49 ?_
        refine lv_goto (tgt := 55) hx hb dX8_remake_50 (by decide) ?_
        refine mm_ri (va_runV (As := [.int (mm_b lf), .int (nI (pos + 1))]) (rest := []) ⟨hx, hb, hml, hown, hts⟩ (t_makeNode l hT hR hW hn9 (by omega)) (cwV 2 hts (lw_V q2460 q2462 qs57 q164 q2463) rfl rfl rfl (by decide +kernel) ⟨Nat.le_of_ble_eq_true rfl, Nat.le_of_ble_eq_true rfl⟩) (mm_pV hKK (mm_rc hKK hT.2.1 mm_le.rf rfl)) rfl rfl hl.1 rfl (lv_room (Nat.le_of_ble_eq_true rfl)) dX8_remake_55 ⟨Nat.le_of_ble_eq_true rfl, Nat.le_of_ble_eq_true rfl⟩) hS (mm_sS hS) (fun H_55 L_55 hB_55 hz_55 hq_55 hS => ?_)
        obtain ⟨F_55, hT, he_55, hR_55⟩ := hB_55
        exact mm_iret (v := nI (s_nn S)) hx hb hr hlk hS (Nat.le_of_ble_eq_true rfl) (Nat.le_of_ble_eq_true rfl) (⟨rfl, F_55, hT, (he_29.mono (by decide)).tr ((eqx.u (by decide)).tr (he_55.mono (by decide))), by rw [c_44]; exact TR_addN_congr hR_55 (fun i (hi : i < pos + 1) => rem_e h7_29 (by have hq8 := hpo.resolve_right (by rw [c_44]; decide); omega))⟩) dX8_remake_58
theorem t_remake (l : Launch) {G : mm_G} {P : mm_H} {H : Heap} {x : Nat} {ad : Nat → Nat} {I : Nat → Int32} {F : Nat → Nat → Int32} {S : sp_S} {o : Option Nat} {pos : Nat} {its : Int32} {la lf : Bool} (hT : TW G x ad I F H) (hR : TR (F 0) S) (hW : WF S) (hn9 : s_nn S < 190) (hp4 : pos < 4) (hr9 : ∀ r, o = some r → r < s_nn S) (hpo : pos ≤ cntO S o ∨ la = false) : Mt l yX8_remake (ws_ yX8_remake cX8_remake 7 (some .int)) 4 140 0 0 G P [.ref x, .int (oI o), .int (nI pos), .int its, .int (mm_b la), .int (mm_b lf)] H (tw_M x ad) (mm_i (nI (s_nn S)) (fun H2 => ∃ F2, TW G x ad I F2 H2 ∧ eqx [0, 7] F F2 ∧ TR (F2 0) (addN S lf (if la = true then pos + 1 else cntO S (o)) (fun i => if i = pos then its else entO S (o) i)))) := by
  cases o with
  | none => exact t_remake0 l hT hR hW hn9 hp4 hpo
  | some r => exact t_remakeN l hT hR hW hn9 hp4 (hr9 r rfl) hpo
set_option maxRecDepth 100000 in
theorem t_replaced (l : Launch) {G : mm_G} {P : mm_H} {H : Heap} {x : Nat} {ad : Nat → Nat} {I : Nat → Int32} {F : Nat → Nat → Int32} {S : sp_S} (h : Nat) {k idx : Nat} {its : Int32} (hT : TW G x ad I F H) (hR : TR (F 0) S) (hW : WF S) (hg : Hgt S h k) (hin : inT S h k idx) (hh3 : h ≤ 4) (hn9 : s_nn S + h ≤ 190) (hi64 : idx < 256) : Mt l yX8_replaced (ws_ yX8_replaced cX8_replaced 8 (some .int)) ((h + 4)) ((h * 60 + 220)) 0 0 G P [.ref x, .int (nI k), .int (nI h), .int (nI idx), .int its] H (tw_M x ad) (mm_i (nI (cpy S h (some k) idx its).1) (fun H2 => ∃ F2, TW G x ad I F2 H2 ∧ eqx [0, 7] F F2 ∧ TR (F2 0) (cpy S h (some k) idx its).2)) := by
  induction h generalizing k idx F H with
  | zero => exact hg.elim
  | succ h ihr =>
    refine Mt.of (by decide) (Nat.le_of_ble_eq_true rfl) (fun p e s m below meth c ls hx hb hr hlk hml hown hnm hts hKK hsH hl hS => ?_)
    have hl : lv_has ls 8 [(0, .ref x), (1, .int (nI k)), (2, .int (nI ((h + 1)))), (3, .int (nI idx)), (4, .int its)] := hl
    have hR0 := hR
    have hMx : mm_A (tw_M x ad) H x := Or.inl (Or.inl rfl)
    have hMa : ∀ j, tw_isA j = true → mm_A (tw_M x ad) H (ad j) := fun j hj => Or.inl (Or.inr ⟨j, hj, rfl⟩)
    have hnv := hW.nv
    have hnn := hW.nn
    have hp64 := p4_le hh3
    have hpos := p4_pos h
    have hk := hg.1
    have hck := hW.cnt hk
    refine lv_iload_n hx hb dX8_replaced_0 rfl (lv_at hl 2 rfl) ?_
    refine lv_iconst (v := nI 1) hx hb dX8_replaced_1 (by decide) ?_
    refine mm_icmp_ne (tgt := 16) (by omega) (by omega) hx hb dX8_replaced_2 (by decide) (fun c_2 => ?_) (fun c_2 => ?_)
    · have hz : h ≠ 0 := by omega
      refine lv_iload_n hx hb dX8_replaced_16 rfl (lv_at hl 2 rfl) ?_
      refine lv_iconst (v := nI 1) hx hb dX8_replaced_17 (by decide) ?_
      refine mm_isub (by omega) hx hb dX8_replaced_18 ?_
      refine mm_top (y := nI h) (congrArg nI (by omega)) ?_
      refine mm_rpu (va_runS (As := [.int (nI h)]) (rest := []) ⟨hx, hb, hml, hown, hts⟩ (t_span l (by omega)) (va_cwS 1 hts (lw_S q2484 q2485 q164 q2486) rfl rfl rfl (by decide +kernel) ⟨by simp only [mm_rm]; omega, by simp only [mm_rm]; omega⟩) (mm_pS hKK) rfl rfl hl.1 rfl (lv_room (Nat.le_of_ble_eq_true rfl)) dX8_replaced_19 ⟨Nat.le_of_ble_eq_true rfl, Nat.le_of_ble_eq_true rfl⟩) hS (mm_s0 hS) (fun L_19 hS => ?_)
      have hq4 : idx / 4 ^ h < s_cnt S k := hin.1
      have hl9 : s_leaf S k = false := lf_false hg hz
      have hE := hW.ent hk hl9 hq4
      have hm9 : idx % 4 ^ h < 4 ^ h := Nat.mod_lt _ hpos
      obtain ⟨hx1, hx2, hx3⟩ := cpy_ex S its h (some (s_chd S k (idx / 4 ^ h))) (idx % 4 ^ h)
      have hx4 := hx3 hz
      have hgk := hg.chd hl9 hq4
      have hW2 : WF (cpy S h (some (s_chd S k (idx / 4 ^ h))) (idx % 4 ^ h) its).2 := cpy_WF hW its (fun r hr => by cases hr; exact hgk) ((hin.2 hz).pa hW hgk) (by omega)
      refine lv_istore (lv' := [(5, .int (nI (4 ^ h))), (0, .ref x), (1, .int (nI k)), (2, .int (nI ((h + 1)))), (3, .int (nI idx)), (4, .int its)]) hx hb dX8_replaced_22 hl (by decide) rfl (fun ls hl => ?_)
      refine lv_iload_n hx hb dX8_replaced_24 rfl (lv_at hl 4 rfl) ?_
      refine lv_iload hx hb dX8_replaced_25 (lv_at hl 0 rfl) ?_
      refine mm_idiv (by omega) (by omega) (by omega) hx hb dX8_replaced_27 ?_
      refine lv_istore (lv' := [(6, .int (nI (idx / (4 ^ h)))), (5, .int (nI (4 ^ h))), (0, .ref x), (1, .int (nI k)), (2, .int (nI ((h + 1)))), (3, .int (nI idx)), (4, .int its)]) hx hb dX8_replaced_28 hl (by decide) rfl (fun ls hl => ?_)
      refine lv_aload_n hx hb dX8_replaced_30 rfl (lv_at hl 2 rfl) ?_
      refine lv_aload_n hx hb dX8_replaced_31 rfl (lv_at hl 2 rfl) ?_
      refine lv_iload_n hx hb dX8_replaced_32 rfl (lv_at hl 3 rfl) ?_
      refine lv_iload hx hb dX8_replaced_33 (lv_at hl 0 rfl) ?_
      refine mm_rpu (va_runV (As := [.int (nI k), .int (nI (idx / (4 ^ h)))]) (rest := [.ref x]) ⟨hx, hb, hml, hown, hts⟩ (t_entry l hT hR hW (by first | assumption | omega) (by first | assumption | omega)) (cwV 2 hts (lw_V q2753 q2755 qs91 q164 q2756) rfl rfl rfl (by decide +kernel) ⟨by simp only [mm_rm]; omega, by simp only [mm_rm]; omega⟩) (mm_pV hKK (mm_rc hKK hT.2.1 mm_le.rf rfl)) rfl rfl hl.1 rfl (lv_room (Nat.le_of_ble_eq_true rfl)) dX8_replaced_35 ⟨Nat.le_of_ble_eq_true rfl, Nat.le_of_ble_eq_true rfl⟩) hS (mm_s0 hS) (fun L_35 hS => ?_)
      refine mm_top (y := nI (s_chd S k (idx / 4 ^ h))) (hE.1) ?_
      refine lv_iload_n hx hb dX8_replaced_38 rfl (lv_at hl 4 rfl) ?_
      refine lv_iconst (v := nI 1) hx hb dX8_replaced_39 (by decide) ?_
      refine mm_isub (by omega) hx hb dX8_replaced_40 ?_
      refine mm_top (y := nI h) (congrArg nI (by omega)) ?_
      refine lv_iload_n hx hb dX8_replaced_41 rfl (lv_at hl 5 rfl) ?_
      refine lv_iload hx hb dX8_replaced_42 (lv_at hl 1 rfl) ?_
      refine mm_irem (by omega) (by omega) (by omega) hx hb dX8_replaced_44 ?_
      refine lv_iload hx hb dX8_replaced_45 (lv_at hl 6 rfl) ?_
      refine mm_ri (va_runV (As := [.int (nI (s_chd S k (idx / 4 ^ h))), .int (nI h), .int (nI (idx % (4 ^ h))), .int its]) (rest := []) ⟨hx, hb, hml, hown, hts⟩ (ihr hT hR hgk (hin.2 hz) (by omega) (by omega) (by omega)) (cwV 4 hts (lw_V q2737 q2739 qs87 q164 q2740) rfl rfl rfl (by decide +kernel) ⟨by simp only [mm_rm]; omega, by simp only [mm_rm]; omega⟩) (mm_pV hKK (mm_rc hKK hT.2.1 mm_le.rf rfl)) rfl rfl hl.1 rfl (lv_room (Nat.le_of_ble_eq_true rfl)) dX8_replaced_47 ⟨Nat.le_of_ble_eq_true rfl, Nat.le_of_ble_eq_true rfl⟩) hS (mm_sS hS) (fun H_47 L_47 hB_47 hz_47 hq_47 hS => ?_)
      obtain ⟨F_47, hT, he_47, hR⟩ := hB_47
      refine lv_istore (lv' := [(7, .int (nI ((cpy S h (some (s_chd S k (idx / 4 ^ h))) (idx % 4 ^ h) its).1))), (6, .int (nI (idx / (4 ^ h)))), (5, .int (nI (4 ^ h))), (0, .ref x), (1, .int (nI k)), (2, .int (nI ((h + 1)))), (3, .int (nI idx)), (4, .int its)]) hx hb dX8_replaced_50 hl (by decide) rfl (fun ls hl => ?_)
      refine lv_aload_n hx hb dX8_replaced_52 rfl (lv_at hl 3 rfl) ?_
      refine lv_iload_n hx hb dX8_replaced_53 rfl (lv_at hl 4 rfl) ?_
      refine lv_iload hx hb dX8_replaced_54 (lv_at hl 1 rfl) ?_
      refine lv_iload hx hb dX8_replaced_56 (lv_at hl 0 rfl) ?_
      refine lv_iconst (v := nI 0) hx hb dX8_replaced_58 (by decide) ?_
      refine mm_top (y := mm_b false) rfl ?_
      refine lv_iconst (v := nI 0) hx hb dX8_replaced_59 (by decide) ?_
      refine mm_top (y := mm_b false) rfl ?_
      refine mm_ri (va_runV (As := [.int (nI k), .int (nI (idx / (4 ^ h))), .int (nI ((cpy S h (some (s_chd S k (idx / 4 ^ h))) (idx % 4 ^ h) its).1)), .int (mm_b false), .int (mm_b false)]) (rest := []) ⟨hx, hb, hml, hown, hts⟩ (t_remake l (S := (cpy S h (some (s_chd S k (idx / 4 ^ h))) (idx % 4 ^ h) its).2) (o := (some k)) hT hR hW2 (by omega) (by omega) (fun r hr => by cases hr; omega) (Or.inr rfl)) (cwV 5 hts (lw_V q2741 q2743 qs88 q164 q2744) rfl rfl rfl (by decide +kernel) ⟨by simp only [mm_rm]; omega, by simp only [mm_rm]; omega⟩) (mm_pV hKK (mm_rc hKK hT.2.1 mm_le.rf rfl)) rfl rfl hl.1 rfl (lv_room (Nat.le_of_ble_eq_true rfl)) dX8_replaced_60 ⟨Nat.le_of_ble_eq_true rfl, Nat.le_of_ble_eq_true rfl⟩) hS (mm_sS hS) (fun H_60 L_60 hB_60 hz_60 hq_60 hS => ?_)
      obtain ⟨F_60, hT, he_60, hR_60⟩ := hB_60
      exact mm_iret (v := nI (s_nn (cpy S h (some (s_chd S k (idx / 4 ^ h))) (idx % 4 ^ h) its).2)) hx hb hr hlk hS (Nat.le_of_ble_eq_true rfl) (Nat.le_of_ble_eq_true rfl) (⟨by rw [cpy_some hz hq4], F_60, hT, he_47.tr he_60, by rw [cpy_some hz hq4]; exact rem_set hx1 hk hq4 hR_60⟩) dX8_replaced_63
    · obtain rfl : h = 0 := by omega
      have hq4 : idx / 4 ^ 0 < s_cnt S k := hin.1
      rw [Nat.pow_zero, Nat.div_one] at hq4
      refine lv_aload_n hx hb dX8_replaced_5 rfl (lv_at hl 0 rfl) ?_
      refine lv_iload_n hx hb dX8_replaced_6 rfl (lv_at hl 1 rfl) ?_
      refine lv_iload_n hx hb dX8_replaced_7 rfl (lv_at hl 3 rfl) ?_
      refine lv_iload hx hb dX8_replaced_8 (lv_at hl 4 rfl) ?_
      refine lv_iconst (v := nI 0) hx hb dX8_replaced_10 (by decide) ?_
      refine mm_top (y := mm_b false) rfl ?_
      refine lv_iconst (v := nI 1) hx hb dX8_replaced_11 (by decide) ?_
      refine mm_top (y := mm_b true) rfl ?_
      refine mm_ri (va_runV (As := [.int (nI k), .int (nI idx), .int its, .int (mm_b false), .int (mm_b true)]) (rest := []) ⟨hx, hb, hml, hown, hts⟩ (t_remake l (S := S) (o := (some k)) hT hR hW (by omega) (by omega) (fun r hr => by cases hr; exact hk) (Or.inr rfl)) (cwV 5 hts (lw_V q2741 q2743 qs88 q164 q2744) rfl rfl rfl (by decide +kernel) ⟨by simp only [mm_rm]; omega, by simp only [mm_rm]; omega⟩) (mm_pV hKK (mm_rc hKK hT.2.1 mm_le.rf rfl)) rfl rfl hl.1 rfl (lv_room (Nat.le_of_ble_eq_true rfl)) dX8_replaced_12 ⟨Nat.le_of_ble_eq_true rfl, Nat.le_of_ble_eq_true rfl⟩) hS (mm_sS hS) (fun H_12 L_12 hB_12 hz_12 hq_12 hS => ?_)
      obtain ⟨F_12, hT, he_12, hR_12⟩ := hB_12
      exact mm_iret (v := nI (s_nn S)) hx hb hr hlk hS (Nat.le_of_ble_eq_true rfl) (Nat.le_of_ble_eq_true rfl) (⟨rfl, F_12, hT, he_12, by rw [cpy_1]; exact rem_set exN.rf hk hq4 hR_12⟩) dX8_replaced_15
set_option maxRecDepth 100000 in
theorem t_extended (l : Launch) {G : mm_G} {P : mm_H} {H : Heap} {x : Nat} {ad : Nat → Nat} {I : Nat → Int32} {F : Nat → Nat → Int32} {S : sp_S} (h : Nat) {o : Option Nat} {idx : Nat} {its : Int32} (hT : TW G x ad I F H) (hR : TR (F 0) S) (hW : WF S) (hg : HgO S h o) (hin : exT S h o idx) (hh3 : h ≤ 4) (hn9 : s_nn S + h ≤ 190) (hi64 : idx < 256) : Mt l yX8_extended (ws_ yX8_extended cX8_extended 9 (some .int)) ((h + 4)) ((h * 60 + 220)) 0 0 G P [.ref x, .int (oI o), .int (nI h), .int (nI idx), .int its] H (tw_M x ad) (mm_i (nI (cpy S h o idx its).1) (fun H2 => ∃ F2, TW G x ad I F2 H2 ∧ eqx [0, 7] F F2 ∧ TR (F2 0) (cpy S h o idx its).2)) := by
  induction h generalizing o idx F H with
  | zero => exact hin.elim
  | succ h ihr =>
    refine Mt.of (by decide) (Nat.le_of_ble_eq_true rfl) (fun p e s m below meth c ls hx hb hr hlk hml hown hnm hts hKK hsH hl hS => ?_)
    have hl : lv_has ls 9 [(0, .ref x), (1, .int (oI o)), (2, .int (nI ((h + 1)))), (3, .int (nI idx)), (4, .int its)] := hl
    have hR0 := hR
    have hMx : mm_A (tw_M x ad) H x := Or.inl (Or.inl rfl)
    have hMa : ∀ j, tw_isA j = true → mm_A (tw_M x ad) H (ad j) := fun j hj => Or.inl (Or.inr ⟨j, hj, rfl⟩)
    have hnv := hW.nv
    have hnn := hW.nn
    have hp64 := p4_le hh3
    have hpos := p4_pos h
    have hco := cntO_le hW hg.lt
    refine lv_iload_n hx hb dX8_extended_0 rfl (lv_at hl 2 rfl) ?_
    refine lv_iconst (v := nI 1) hx hb dX8_extended_1 (by decide) ?_
    refine mm_icmp_ne (tgt := 16) (by omega) (by omega) hx hb dX8_extended_2 (by decide) (fun c_2 => ?_) (fun c_2 => ?_)
    · have hz : h ≠ 0 := by omega
      refine lv_iload_n hx hb dX8_extended_16 rfl (lv_at hl 2 rfl) ?_
      refine lv_iconst (v := nI 1) hx hb dX8_extended_17 (by decide) ?_
      refine mm_isub (by omega) hx hb dX8_extended_18 ?_
      refine mm_top (y := nI h) (congrArg nI (by omega)) ?_
      refine mm_rpu (va_runS (As := [.int (nI h)]) (rest := []) ⟨hx, hb, hml, hown, hts⟩ (t_span l (by omega)) (va_cwS 1 hts (lw_S q2484 q2485 q164 q2486) rfl rfl rfl (by decide +kernel) ⟨by simp only [mm_rm]; omega, by simp only [mm_rm]; omega⟩) (mm_pS hKK) rfl rfl hl.1 rfl (lv_room (Nat.le_of_ble_eq_true rfl)) dX8_extended_19 ⟨Nat.le_of_ble_eq_true rfl, Nat.le_of_ble_eq_true rfl⟩) hS (mm_s0 hS) (fun L_19 hS => ?_)
      obtain ⟨hq4, hqc, hqd, hkx⟩ := hin
      have hkx := hkx hz
      have hm9 : idx % 4 ^ h < 4 ^ h := Nat.mod_lt _ hpos
      obtain ⟨hx1, hx2, hx3⟩ := cpy_ex S its h (kidO S o (idx / 4 ^ h)) (idx % 4 ^ h)
      have hx4 := hx3 hz
      have hgk : HgO S h (kidO S o (idx / 4 ^ h)) := hg.kid hz
      have hW2 : WF (cpy S h (kidO S o (idx / 4 ^ h)) (idx % 4 ^ h) its).2 := cpy_WF hW its hgk hkx.pa (by omega)
      refine lv_istore (lv' := [(5, .int (nI (4 ^ h))), (0, .ref x), (1, .int (oI o)), (2, .int (nI ((h + 1)))), (3, .int (nI idx)), (4, .int its)]) hx hb dX8_extended_22 hl (by decide) rfl (fun ls hl => ?_)
      refine lv_iload_n hx hb dX8_extended_24 rfl (lv_at hl 4 rfl) ?_
      refine lv_iload hx hb dX8_extended_25 (lv_at hl 0 rfl) ?_
      refine mm_idiv (by omega) (by omega) (by omega) hx hb dX8_extended_27 ?_
      refine lv_istore (lv' := [(6, .int (nI (idx / (4 ^ h)))), (5, .int (nI (4 ^ h))), (0, .ref x), (1, .int (oI o)), (2, .int (nI ((h + 1)))), (3, .int (nI idx)), (4, .int its)]) hx hb dX8_extended_28 hl (by decide) rfl (fun ls hl => ?_)
      refine lv_iload_n hx hb dX8_extended_30 rfl (lv_at hl 3 rfl) ?_
      refine lv_iconst (v := (-1)) hx hb dX8_extended_31 (by decide) ?_
      refine mm_icmp_eqM (tgt := 49) (fun r hr => by have := (hg r hr).1; omega) hx hb dX8_extended_32 (by decide) (fun c_32 => ?_) (fun r_32 c_32 => ?_)
      · have hko := kidO_n (S := S) (p := idx / 4 ^ h) c_32
        refine lv_iconst (v := nI 0) hx hb dX8_extended_49 (by decide) ?_
        refine lv_istore (lv' := [(7, .int (nI 0)), (6, .int (nI (idx / (4 ^ h)))), (5, .int (nI (4 ^ h))), (0, .ref x), (1, .int (oI o)), (2, .int (nI ((h + 1)))), (3, .int (nI idx)), (4, .int its)]) hx hb dX8_extended_50 hl (by decide) rfl (fun ls hl => ?_)
        refine lv_aload_n hx hb dX8_extended_52 rfl (lv_at hl 3 rfl) ?_
        refine lv_iload hx hb dX8_extended_53 (lv_at hl 0 rfl) ?_
        refine mm_if_eq (tgt := 68) (by omega) hx hb dX8_extended_55 (by decide) (fun c_55 => ?_) (fun c_55 => ?_)
        · refine lv_iconst (v := (-1)) hx hb dX8_extended_68 (by decide) ?_
          refine lv_iload_n hx hb dX8_extended_69 rfl (lv_at hl 5 rfl) ?_
          refine lv_iconst (v := nI 1) hx hb dX8_extended_70 (by decide) ?_
          refine mm_isub (by omega) hx hb dX8_extended_71 ?_
          refine mm_top (y := nI h) (congrArg nI (by omega)) ?_
          refine lv_iload_n hx hb dX8_extended_72 rfl (lv_at hl 6 rfl) ?_
          refine lv_iload hx hb dX8_extended_73 (lv_at hl 2 rfl) ?_
          refine mm_irem (by omega) (by omega) (by omega) hx hb dX8_extended_75 ?_
          refine lv_iload hx hb dX8_extended_76 (lv_at hl 7 rfl) ?_
          have hko9 : kidO S o (idx / 4 ^ h) = none := hko
          have hkx9 := hkx; have hgk9 := hgk; rw [hko9] at hkx9 hgk9
          refine mm_ri (va_runV (As := [.int ((-1)), .int (nI h), .int (nI (idx % (4 ^ h))), .int its]) (rest := []) ⟨hx, hb, hml, hown, hts⟩ (ihr (o := none) hT hR hgk9 hkx9 (by omega) (by omega) (by omega)) (cwV 4 hts (lw_V q2769 q2771 qs95 q164 q2772) rfl rfl rfl (by decide +kernel) ⟨by simp only [mm_rm]; omega, by simp only [mm_rm]; omega⟩) (mm_pV hKK (mm_rc hKK hT.2.1 mm_le.rf rfl)) rfl rfl hl.1 rfl (lv_room (Nat.le_of_ble_eq_true rfl)) dX8_extended_78 ⟨Nat.le_of_ble_eq_true rfl, Nat.le_of_ble_eq_true rfl⟩) hS (mm_sS hS) (fun H_78 L_78 hB_78 hz_78 hq_78 hS => ?_)
          obtain ⟨F_78, hT, he_78, hR⟩ := hB_78
          rw [← hko9] at hR
          refine mm_top (y := nI ((cpy S h (kidO S o (idx / 4 ^ h)) (idx % 4 ^ h) its).1)) (by rw [hko9]) ?_
          refine lv_istore (lv' := [(8, .int (nI ((cpy S h (kidO S o (idx / 4 ^ h)) (idx % 4 ^ h) its).1))), (7, .int (nI 0)), (6, .int (nI (idx / (4 ^ h)))), (5, .int (nI (4 ^ h))), (0, .ref x), (1, .int (oI o)), (2, .int (nI ((h + 1)))), (3, .int (nI idx)), (4, .int its)]) hx hb dX8_extended_81 hl (by decide) rfl (fun ls hl => ?_)
          refine lv_aload_n hx hb dX8_extended_83 rfl (lv_at hl 4 rfl) ?_
          refine lv_iload_n hx hb dX8_extended_84 rfl (lv_at hl 5 rfl) ?_
          refine lv_iload hx hb dX8_extended_85 (lv_at hl 2 rfl) ?_
          refine lv_iload hx hb dX8_extended_87 (lv_at hl 0 rfl) ?_
          refine lv_iconst (v := nI 1) hx hb dX8_extended_89 (by decide) ?_
          refine mm_top (y := mm_b true) rfl ?_
          refine lv_iconst (v := nI 0) hx hb dX8_extended_90 (by decide) ?_
          refine mm_top (y := mm_b false) rfl ?_
          refine mm_ri (va_runV (As := [.int (oI o), .int (nI (idx / (4 ^ h))), .int (nI ((cpy S h (kidO S o (idx / 4 ^ h)) (idx % 4 ^ h) its).1)), .int (mm_b true), .int (mm_b false)]) (rest := []) ⟨hx, hb, hml, hown, hts⟩ (t_remake l (S := (cpy S h (kidO S o (idx / 4 ^ h)) (idx % 4 ^ h) its).2) (o := o) hT hR hW2 (by omega) (by omega) (fun r hr => by have := hg.lt r hr; omega) (Or.inl (by rw [(hx1.cntO hg.lt).1]; exact hqc))) (cwV 5 hts (lw_V q2741 q2743 qs88 q164 q2744) rfl rfl rfl (by decide +kernel) ⟨by simp only [mm_rm]; omega, by simp only [mm_rm]; omega⟩) (mm_pV hKK (mm_rc hKK hT.2.1 mm_le.rf rfl)) rfl rfl hl.1 rfl (lv_room (Nat.le_of_ble_eq_true rfl)) dX8_extended_91 ⟨Nat.le_of_ble_eq_true rfl, Nat.le_of_ble_eq_true rfl⟩) hS (mm_sS hS) (fun H_91 L_91 hB_91 hz_91 hq_91 hS => ?_)
          obtain ⟨F_91, hT, he_91, hR_91⟩ := hB_91
          exact mm_iret (v := nI (s_nn (cpy S h (kidO S o (idx / 4 ^ h)) (idx % 4 ^ h) its).2)) hx hb hr hlk hS (Nat.le_of_ble_eq_true rfl) (Nat.le_of_ble_eq_true rfl) (⟨by rw [cpy_s hz], F_91, hT, he_78.tr he_91, by rw [cpy_s hz]; exact rem_ext hx1 hg.lt hqd (by first | exact hR_91 | (rw [← c_32] at hR_91; exact hR_91))⟩) dX8_extended_94
        · exact absurd c_55 (by decide)
      · have hcr9 := hW.cnt (hg _ c_32).1
        have hrlt := (hg _ c_32).1
        refine lv_iload hx hb dX8_extended_35 (lv_at hl 0 rfl) ?_
        refine lv_aload_n hx hb dX8_extended_37 rfl (lv_at hl 2 rfl) ?_
        refine lv_iload_n hx hb dX8_extended_38 rfl (lv_at hl 3 rfl) ?_
        refine mm_top (y := nI r_32) (oI_some c_32) ?_
        refine mm_rpu (va_runV (As := [.int (nI r_32)]) (rest := [.int (nI (idx / (4 ^ h)))]) ⟨hx, hb, hml, hown, hts⟩ (t_countOf l hT hR hW (by first | assumption | omega)) (cwV 1 hts (lw_V q2745 q2747 qs89 q164 q2748) rfl rfl rfl (by decide +kernel) ⟨by simp only [mm_rm]; omega, by simp only [mm_rm]; omega⟩) (mm_pV hKK (mm_rc hKK hT.2.1 mm_le.rf rfl)) rfl rfl hl.1 rfl (lv_room (Nat.le_of_ble_eq_true rfl)) dX8_extended_39 ⟨Nat.le_of_ble_eq_true rfl, Nat.le_of_ble_eq_true rfl⟩) hS (mm_s0 hS) (fun L_39 hS => ?_)
        refine mm_icmp_ge (tgt := 49) (by omega) (by omega) hx hb dX8_extended_42 (by decide) (fun c_42 => ?_) (fun c_42 => ?_)
        · have hko := kidO_f c_32 c_42
          refine lv_iconst (v := nI 0) hx hb dX8_extended_49 (by decide) ?_
          refine lv_istore (lv' := [(7, .int (nI 0)), (6, .int (nI (idx / (4 ^ h)))), (5, .int (nI (4 ^ h))), (0, .ref x), (1, .int (oI o)), (2, .int (nI ((h + 1)))), (3, .int (nI idx)), (4, .int its)]) hx hb dX8_extended_50 hl (by decide) rfl (fun ls hl => ?_)
          refine lv_aload_n hx hb dX8_extended_52 rfl (lv_at hl 3 rfl) ?_
          refine lv_iload hx hb dX8_extended_53 (lv_at hl 0 rfl) ?_
          refine mm_if_eq (tgt := 68) (by omega) hx hb dX8_extended_55 (by decide) (fun c_55 => ?_) (fun c_55 => ?_)
          · refine lv_iconst (v := (-1)) hx hb dX8_extended_68 (by decide) ?_
            refine lv_iload_n hx hb dX8_extended_69 rfl (lv_at hl 5 rfl) ?_
            refine lv_iconst (v := nI 1) hx hb dX8_extended_70 (by decide) ?_
            refine mm_isub (by omega) hx hb dX8_extended_71 ?_
            refine mm_top (y := nI h) (congrArg nI (by omega)) ?_
            refine lv_iload_n hx hb dX8_extended_72 rfl (lv_at hl 6 rfl) ?_
            refine lv_iload hx hb dX8_extended_73 (lv_at hl 2 rfl) ?_
            refine mm_irem (by omega) (by omega) (by omega) hx hb dX8_extended_75 ?_
            refine lv_iload hx hb dX8_extended_76 (lv_at hl 7 rfl) ?_
            have hko9 : kidO S o (idx / 4 ^ h) = none := hko
            have hkx9 := hkx; have hgk9 := hgk; rw [hko9] at hkx9 hgk9
            refine mm_ri (va_runV (As := [.int ((-1)), .int (nI h), .int (nI (idx % (4 ^ h))), .int its]) (rest := []) ⟨hx, hb, hml, hown, hts⟩ (ihr (o := none) hT hR hgk9 hkx9 (by omega) (by omega) (by omega)) (cwV 4 hts (lw_V q2769 q2771 qs95 q164 q2772) rfl rfl rfl (by decide +kernel) ⟨by simp only [mm_rm]; omega, by simp only [mm_rm]; omega⟩) (mm_pV hKK (mm_rc hKK hT.2.1 mm_le.rf rfl)) rfl rfl hl.1 rfl (lv_room (Nat.le_of_ble_eq_true rfl)) dX8_extended_78 ⟨Nat.le_of_ble_eq_true rfl, Nat.le_of_ble_eq_true rfl⟩) hS (mm_sS hS) (fun H_78 L_78 hB_78 hz_78 hq_78 hS => ?_)
            obtain ⟨F_78, hT, he_78, hR⟩ := hB_78
            rw [← hko9] at hR
            refine mm_top (y := nI ((cpy S h (kidO S o (idx / 4 ^ h)) (idx % 4 ^ h) its).1)) (by rw [hko9]) ?_
            refine lv_istore (lv' := [(8, .int (nI ((cpy S h (kidO S o (idx / 4 ^ h)) (idx % 4 ^ h) its).1))), (7, .int (nI 0)), (6, .int (nI (idx / (4 ^ h)))), (5, .int (nI (4 ^ h))), (0, .ref x), (1, .int (oI o)), (2, .int (nI ((h + 1)))), (3, .int (nI idx)), (4, .int its)]) hx hb dX8_extended_81 hl (by decide) rfl (fun ls hl => ?_)
            refine lv_aload_n hx hb dX8_extended_83 rfl (lv_at hl 4 rfl) ?_
            refine lv_iload_n hx hb dX8_extended_84 rfl (lv_at hl 5 rfl) ?_
            refine mm_top (y := nI r_32) (oI_some c_32) ?_
            refine lv_iload hx hb dX8_extended_85 (lv_at hl 2 rfl) ?_
            refine lv_iload hx hb dX8_extended_87 (lv_at hl 0 rfl) ?_
            refine lv_iconst (v := nI 1) hx hb dX8_extended_89 (by decide) ?_
            refine mm_top (y := mm_b true) rfl ?_
            refine lv_iconst (v := nI 0) hx hb dX8_extended_90 (by decide) ?_
            refine mm_top (y := mm_b false) rfl ?_
            refine mm_ri (va_runV (As := [.int (nI r_32), .int (nI (idx / (4 ^ h))), .int (nI ((cpy S h (kidO S o (idx / 4 ^ h)) (idx % 4 ^ h) its).1)), .int (mm_b true), .int (mm_b false)]) (rest := []) ⟨hx, hb, hml, hown, hts⟩ (t_remake l (S := (cpy S h (kidO S o (idx / 4 ^ h)) (idx % 4 ^ h) its).2) (o := (some r_32)) hT hR hW2 (by omega) (by omega) (fun r hr => by cases hr; omega) (Or.inl (by rw [← c_32, (hx1.cntO hg.lt).1]; exact hqc))) (cwV 5 hts (lw_V q2741 q2743 qs88 q164 q2744) rfl rfl rfl (by decide +kernel) ⟨by simp only [mm_rm]; omega, by simp only [mm_rm]; omega⟩) (mm_pV hKK (mm_rc hKK hT.2.1 mm_le.rf rfl)) rfl rfl hl.1 rfl (lv_room (Nat.le_of_ble_eq_true rfl)) dX8_extended_91 ⟨Nat.le_of_ble_eq_true rfl, Nat.le_of_ble_eq_true rfl⟩) hS (mm_sS hS) (fun H_91 L_91 hB_91 hz_91 hq_91 hS => ?_)
            obtain ⟨F_91, hT, he_91, hR_91⟩ := hB_91
            exact mm_iret (v := nI (s_nn (cpy S h (kidO S o (idx / 4 ^ h)) (idx % 4 ^ h) its).2)) hx hb hr hlk hS (Nat.le_of_ble_eq_true rfl) (Nat.le_of_ble_eq_true rfl) (⟨by rw [cpy_s hz], F_91, hT, he_78.tr he_91, by rw [cpy_s hz]; exact rem_ext hx1 hg.lt hqd (by first | exact hR_91 | (rw [← c_32] at hR_91; exact hR_91))⟩) dX8_extended_94
          · exact absurd c_55 (by decide)
        · have hko := kidO_t c_32 c_42
          have hl9 := lf_false (hg _ c_32) hz
          have hE := hW.ent (hg _ c_32).1 hl9 c_42
          refine lv_iconst (v := nI 1) hx hb dX8_extended_45 (by decide) ?_
          refine lv_goto (tgt := 50) hx hb dX8_extended_46 (by decide) ?_
          refine lv_istore (lv' := [(7, .int (nI 1)), (6, .int (nI (idx / (4 ^ h)))), (5, .int (nI (4 ^ h))), (0, .ref x), (1, .int (oI o)), (2, .int (nI ((h + 1)))), (3, .int (nI idx)), (4, .int its)]) hx hb dX8_extended_50 hl (by decide) rfl (fun ls hl => ?_)
          refine lv_aload_n hx hb dX8_extended_52 rfl (lv_at hl 3 rfl) ?_
          refine lv_iload hx hb dX8_extended_53 (lv_at hl 0 rfl) ?_
          refine mm_if_eq (tgt := 68) (by omega) hx hb dX8_extended_55 (by decide) (fun c_55 => ?_) (fun c_55 => ?_)
          · exact absurd c_55 (by decide)
          · refine lv_aload_n hx hb dX8_extended_58 rfl (lv_at hl 3 rfl) ?_
            refine lv_iload_n hx hb dX8_extended_59 rfl (lv_at hl 4 rfl) ?_
            refine mm_top (y := nI r_32) (oI_some c_32) ?_
            refine lv_iload hx hb dX8_extended_60 (lv_at hl 1 rfl) ?_
            refine mm_rpu (va_runV (As := [.int (nI r_32), .int (nI (idx / (4 ^ h)))]) (rest := [.ref x]) ⟨hx, hb, hml, hown, hts⟩ (t_entry l hT hR hW (by first | assumption | omega) (by first | assumption | omega)) (cwV 2 hts (lw_V q2753 q2755 qs91 q164 q2756) rfl rfl rfl (by decide +kernel) ⟨by simp only [mm_rm]; omega, by simp only [mm_rm]; omega⟩) (mm_pV hKK (mm_rc hKK hT.2.1 mm_le.rf rfl)) rfl rfl hl.1 rfl (lv_room (Nat.le_of_ble_eq_true rfl)) dX8_extended_62 ⟨Nat.le_of_ble_eq_true rfl, Nat.le_of_ble_eq_true rfl⟩) hS (mm_s0 hS) (fun L_62 hS => ?_)
            refine mm_top (y := nI (s_chd S r_32 (idx / 4 ^ h))) (hE.1) ?_
            refine lv_goto (tgt := 69) hx hb dX8_extended_65 (by decide) ?_
            refine lv_iload_n hx hb dX8_extended_69 rfl (lv_at hl 5 rfl) ?_
            refine lv_iconst (v := nI 1) hx hb dX8_extended_70 (by decide) ?_
            refine mm_isub (by omega) hx hb dX8_extended_71 ?_
            refine mm_top (y := nI h) (congrArg nI (by omega)) ?_
            refine lv_iload_n hx hb dX8_extended_72 rfl (lv_at hl 6 rfl) ?_
            refine lv_iload hx hb dX8_extended_73 (lv_at hl 2 rfl) ?_
            refine mm_irem (by omega) (by omega) (by omega) hx hb dX8_extended_75 ?_
            refine lv_iload hx hb dX8_extended_76 (lv_at hl 7 rfl) ?_
            have hko9 : kidO S o (idx / 4 ^ h) = (some (s_chd S r_32 (idx / 4 ^ h))) := hko
            have hkx9 := hkx; have hgk9 := hgk; rw [hko9] at hkx9 hgk9
            refine mm_ri (va_runV (As := [.int (nI (s_chd S r_32 (idx / 4 ^ h))), .int (nI h), .int (nI (idx % (4 ^ h))), .int its]) (rest := []) ⟨hx, hb, hml, hown, hts⟩ (ihr (o := (some (s_chd S r_32 (idx / 4 ^ h)))) hT hR hgk9 hkx9 (by omega) (by omega) (by omega)) (cwV 4 hts (lw_V q2769 q2771 qs95 q164 q2772) rfl rfl rfl (by decide +kernel) ⟨by simp only [mm_rm]; omega, by simp only [mm_rm]; omega⟩) (mm_pV hKK (mm_rc hKK hT.2.1 mm_le.rf rfl)) rfl rfl hl.1 rfl (lv_room (Nat.le_of_ble_eq_true rfl)) dX8_extended_78 ⟨Nat.le_of_ble_eq_true rfl, Nat.le_of_ble_eq_true rfl⟩) hS (mm_sS hS) (fun H_78 L_78 hB_78 hz_78 hq_78 hS => ?_)
            obtain ⟨F_78, hT, he_78, hR⟩ := hB_78
            rw [← hko9] at hR
            refine mm_top (y := nI ((cpy S h (kidO S o (idx / 4 ^ h)) (idx % 4 ^ h) its).1)) (by rw [hko9]) ?_
            refine lv_istore (lv' := [(8, .int (nI ((cpy S h (kidO S o (idx / 4 ^ h)) (idx % 4 ^ h) its).1))), (7, .int (nI 1)), (6, .int (nI (idx / (4 ^ h)))), (5, .int (nI (4 ^ h))), (0, .ref x), (1, .int (oI o)), (2, .int (nI ((h + 1)))), (3, .int (nI idx)), (4, .int its)]) hx hb dX8_extended_81 hl (by decide) rfl (fun ls hl => ?_)
            refine lv_aload_n hx hb dX8_extended_83 rfl (lv_at hl 4 rfl) ?_
            refine lv_iload_n hx hb dX8_extended_84 rfl (lv_at hl 5 rfl) ?_
            refine mm_top (y := nI r_32) (oI_some c_32) ?_
            refine lv_iload hx hb dX8_extended_85 (lv_at hl 2 rfl) ?_
            refine lv_iload hx hb dX8_extended_87 (lv_at hl 0 rfl) ?_
            refine lv_iconst (v := nI 1) hx hb dX8_extended_89 (by decide) ?_
            refine mm_top (y := mm_b true) rfl ?_
            refine lv_iconst (v := nI 0) hx hb dX8_extended_90 (by decide) ?_
            refine mm_top (y := mm_b false) rfl ?_
            refine mm_ri (va_runV (As := [.int (nI r_32), .int (nI (idx / (4 ^ h))), .int (nI ((cpy S h (kidO S o (idx / 4 ^ h)) (idx % 4 ^ h) its).1)), .int (mm_b true), .int (mm_b false)]) (rest := []) ⟨hx, hb, hml, hown, hts⟩ (t_remake l (S := (cpy S h (kidO S o (idx / 4 ^ h)) (idx % 4 ^ h) its).2) (o := (some r_32)) hT hR hW2 (by omega) (by omega) (fun r hr => by cases hr; omega) (Or.inl (by rw [← c_32, (hx1.cntO hg.lt).1]; exact hqc))) (cwV 5 hts (lw_V q2741 q2743 qs88 q164 q2744) rfl rfl rfl (by decide +kernel) ⟨by simp only [mm_rm]; omega, by simp only [mm_rm]; omega⟩) (mm_pV hKK (mm_rc hKK hT.2.1 mm_le.rf rfl)) rfl rfl hl.1 rfl (lv_room (Nat.le_of_ble_eq_true rfl)) dX8_extended_91 ⟨Nat.le_of_ble_eq_true rfl, Nat.le_of_ble_eq_true rfl⟩) hS (mm_sS hS) (fun H_91 L_91 hB_91 hz_91 hq_91 hS => ?_)
            obtain ⟨F_91, hT, he_91, hR_91⟩ := hB_91
            exact mm_iret (v := nI (s_nn (cpy S h (kidO S o (idx / 4 ^ h)) (idx % 4 ^ h) its).2)) hx hb hr hlk hS (Nat.le_of_ble_eq_true rfl) (Nat.le_of_ble_eq_true rfl) (⟨by rw [cpy_s hz], F_91, hT, he_78.tr he_91, by rw [cpy_s hz]; exact rem_ext hx1 hg.lt hqd (by first | exact hR_91 | (rw [← c_32] at hR_91; exact hR_91))⟩) dX8_extended_94
    · obtain rfl : h = 0 := by omega
      obtain ⟨hq4, hqc, hqd, -⟩ := hin
      rw [Nat.pow_zero, Nat.div_one] at hq4 hqc hqd
      refine lv_aload_n hx hb dX8_extended_5 rfl (lv_at hl 0 rfl) ?_
      refine lv_iload_n hx hb dX8_extended_6 rfl (lv_at hl 1 rfl) ?_
      refine lv_iload_n hx hb dX8_extended_7 rfl (lv_at hl 3 rfl) ?_
      refine lv_iload hx hb dX8_extended_8 (lv_at hl 4 rfl) ?_
      refine lv_iconst (v := nI 1) hx hb dX8_extended_10 (by decide) ?_
      refine mm_top (y := mm_b true) rfl ?_
      refine lv_iconst (v := nI 1) hx hb dX8_extended_11 (by decide) ?_
      refine mm_top (y := mm_b true) rfl ?_
      refine mm_ri (va_runV (As := [.int (oI o), .int (nI idx), .int its, .int (mm_b true), .int (mm_b true)]) (rest := []) ⟨hx, hb, hml, hown, hts⟩ (t_remake l (S := S) (o := o) hT hR hW (by omega) (by omega) hg.lt (Or.inl hqc)) (cwV 5 hts (lw_V q2741 q2743 qs88 q164 q2744) rfl rfl rfl (by decide +kernel) ⟨by simp only [mm_rm]; omega, by simp only [mm_rm]; omega⟩) (mm_pV hKK (mm_rc hKK hT.2.1 mm_le.rf rfl)) rfl rfl hl.1 rfl (lv_room (Nat.le_of_ble_eq_true rfl)) dX8_extended_12 ⟨Nat.le_of_ble_eq_true rfl, Nat.le_of_ble_eq_true rfl⟩) hS (mm_sS hS) (fun H_12 L_12 hB_12 hz_12 hq_12 hS => ?_)
      obtain ⟨F_12, hT, he_12, hR_12⟩ := hB_12
      exact mm_iret (v := nI (s_nn S)) hx hb hr hlk hS (Nat.le_of_ble_eq_true rfl) (Nat.le_of_ble_eq_true rfl) (⟨rfl, F_12, hT, he_12, by rw [cpy_1]; exact rem_ext exN.rf hg.lt hqd hR_12⟩) dX8_extended_15
