/-! the twin: garbage (printed by tools/tw4.py) -/
set_option maxRecDepth 100000 in
theorem t_releaseVersion (l : Launch) {G : mm_G} {P : mm_H} {H : Heap} {x : Nat} {ad : Nat → Nat} {I : Nat → Int32} {F : Nat → Nat → Int32} {S : sp_S} {k : Nat} (hT : TW G x ad I F H) (hR : TR (F 0) S) (hW : WF S) (hG : HG S) (hk : k < s_nv S) : Mt l yX8_releaseVersion (ws_ yX8_releaseVersion cX8_releaseVersion 2 (some .int)) 8 400 0 0 G P [.ref x, .int (nI k)] H (tw_M x ad) (mm_i (nI (s_garb (setR S k))) (fun H2 => ∃ F2, TW G x ad I F2 H2 ∧ eqx [0, 11] F F2 ∧ TR (F2 0) (setR S k))) := by
  refine Mt.of (by decide) (Nat.le_of_ble_eq_true rfl) (fun p e s m below meth c ls hx hb hr hlk hml hown hnm hts hKK hsH hl hS => ?_)
  have hl : lv_has ls 2 [(0, .ref x), (1, .int (nI k))] := hl
  have hR0 := hR
  have hMx : mm_A (tw_M x ad) H x := Or.inl (Or.inl rfl)
  have hMa : ∀ j, tw_isA j = true → mm_A (tw_M x ad) H (ad j) := fun j hj => Or.inl (Or.inr ⟨j, hj, rfl⟩)
  have hnv := hW.nv
  have hnn := hW.nn
  refine lv_aload_n hx hb dX8_releaseVersion_0 rfl (lv_at hl 0 rfl) ?_
  refine tw_geta 0 hx hb hts hown hKK hT rfl rfl (hts _ q2498) dX8_releaseVersion_1 ?_
  refine lv_iload_n hx hb dX8_releaseVersion_4 rfl (lv_at hl 1 rfl) ?_
  refine mm_rpu (va_runS (As := [.int (nI k)]) (rest := [.ref (ad 0)]) ⟨hx, hb, hml, hown, hts⟩ (t_v l ) (va_cwS 1 hts (lw_S q2478 q2479 q164 q2480) rfl rfl rfl (by decide +kernel) ⟨Nat.le_of_ble_eq_true rfl, Nat.le_of_ble_eq_true rfl⟩) (mm_pS hKK) rfl rfl hl.1 rfl (lv_room (Nat.le_of_ble_eq_true rfl)) dX8_releaseVersion_5 ⟨Nat.le_of_ble_eq_true rfl, Nat.le_of_ble_eq_true rfl⟩) hS (mm_s0 hS) (fun L_5 hS => ?_)
  refine lv_iconst (v := nI 4) hx hb dX8_releaseVersion_8 (by decide) ?_
  refine mm_iadd hx hb dX8_releaseVersion_9 ?_
  refine lv_iconst (v := nI 1) hx hb dX8_releaseVersion_10 (by decide) ?_
  refine tw_st 0 (k := (10 + 6 * k + 4)) hx hb hKK hT hS hMa rfl rfl (by show _ < 4210; omega) dX8_releaseVersion_11 (fun H_11 L_11 hT hz_11 hq_11 hS => ?_)
  have hR := TR_setR hk hW hR
  refine lv_aload_n hx hb dX8_releaseVersion_12 rfl (lv_at hl 0 rfl) ?_
  refine mm_ri (va_runV (As := []) (rest := []) ⟨hx, hb, hml, hown, hts⟩ (t_countGarbage l hT hR (WF_setR hW) (HG_setR hG)) (cwV 0 hts (lw_V q2801 q2803 qs103 q164 q2804) rfl rfl rfl (by decide +kernel) ⟨Nat.le_of_ble_eq_true rfl, Nat.le_of_ble_eq_true rfl⟩) (mm_pV hKK (mm_rc hKK hT.2.1 mm_le.rf rfl)) rfl rfl hl.1 rfl (lv_room (Nat.le_of_ble_eq_true rfl)) dX8_releaseVersion_13 ⟨Nat.le_of_ble_eq_true rfl, Nat.le_of_ble_eq_true rfl⟩) hS (mm_sS hS) (fun H_13 L_13 hB_13 hz_13 hq_13 hS => ?_)
  obtain ⟨F_13, hT, he_13, h11_13⟩ := hB_13
  have hR := TRx he_13 (by decide) hR
  exact mm_iret (v := nI (s_garb (setR S k))) hx hb hr hlk hS (Nat.le_of_ble_eq_true rfl) (Nat.le_of_ble_eq_true rfl) (⟨rfl, F_13, hT, (eqx.u (by decide)).tr (he_13.mono (by decide)), hR⟩) dX8_releaseVersion_16
set_option maxRecDepth 100000 in
theorem t_collectAll (l : Launch) {G : mm_G} {P : mm_H} {H : Heap} {x : Nat} {ad : Nat → Nat} {I : Nat → Int32} {F : Nat → Nat → Int32} {S : sp_S} (hT : TW G x ad I F H) (hR : TR (F 0) S) (hW : WF S) (hG : HG S) : Mt l yX8_collectAll (ws_ yX8_collectAll cX8_collectAll 3 (some .int)) 8 400 0 0 G P [.ref x] H (tw_M x ad) (mm_i (nI (s_garb S)) (fun H2 => ∃ F2, TW G x ad I F2 H2 ∧ eqx [0, 11] F F2 ∧ TR (F2 0) (coll S))) := by
  refine Mt.of (by decide) (Nat.le_of_ble_eq_true rfl) (fun p e s m below meth c ls hx hb hr hlk hml hown hnm hts hKK hsH hl hS => ?_)
  have hl : lv_has ls 3 [(0, .ref x)] := hl
  have hR0 := hR
  have hMx : mm_A (tw_M x ad) H x := Or.inl (Or.inl rfl)
  have hMa : ∀ j, tw_isA j = true → mm_A (tw_M x ad) H (ad j) := fun j hj => Or.inl (Or.inr ⟨j, hj, rfl⟩)
  have hnv := hW.nv
  have hnn := hW.nn
  refine lv_aload_n hx hb dX8_collectAll_0 rfl (lv_at hl 0 rfl) ?_
  refine mm_ri (va_runV (As := []) (rest := []) ⟨hx, hb, hml, hown, hts⟩ (t_countGarbage l hT hR hW hG) (cwV 0 hts (lw_V q2801 q2803 qs103 q164 q2804) rfl rfl rfl (by decide +kernel) ⟨Nat.le_of_ble_eq_true rfl, Nat.le_of_ble_eq_true rfl⟩) (mm_pV hKK (mm_rc hKK hT.2.1 mm_le.rf rfl)) rfl rfl hl.1 rfl (lv_room (Nat.le_of_ble_eq_true rfl)) dX8_collectAll_1 ⟨Nat.le_of_ble_eq_true rfl, Nat.le_of_ble_eq_true rfl⟩) hS (mm_sS hS) (fun H_1 L_1 hB_1 hz_1 hq_1 hS => ?_)
  obtain ⟨F_1, hT, he_1, h11_1⟩ := hB_1
  have hR := TRx he_1 (by decide) hR
  refine lv_istore_n (lv' := [(1, .int (nI (s_garb S))), (0, .ref x)]) hx hb dX8_collectAll_4 rfl hl (by decide) rfl (fun ls hl => ?_)
  refine lv_iconst (v := nI 0) hx hb dX8_collectAll_5 (by decide) ?_
  refine lv_istore_n (lv' := [(2, .int (nI 0)), (1, .int (nI (s_garb S))), (0, .ref x)]) hx hb dX8_collectAll_6 rfl hl (by decide) rfl (fun ls hl => ?_)
  have hR0 := hR
  have lp_7 : ∀ (fu : Nat) (i : Nat) (H1 : Heap) (F1 : Nat → Nat → Int32) (L : List Loc) (ls : Array Slot), s_nn S - i < fu → (i ≤ s_nn S) → lv_has ls 3 [(1, .int (nI (s_garb S))), (2, .int (nI i)), (0, .ref x)] → (TW G x ad I F1 H1) → (eqx [0] F_1 F1) → (∀ k, k < i → F1 0 (2810 + 7 * k + 6) = mm_b (s_sto S k && rch S k)) → (∀ j, (∀ k, k < i → j ≠ 2810 + 7 * k + 6) → F1 0 j = F_1 0 j) → va_S (mm_A (tw_M x ad) H) H H1 L → W p l e (mm_rm 8 400 0 0) s m ([.ref x] : List Value).toArray below meth c H1 L 0 0 (MQ below (mm_Qc H (tw_M x ad) (mm_i (nI (s_garb S)) (fun H2 => ∃ F2, TW G x ad I F2 H2 ∧ eqx [0, 11] F F2 ∧ TR (F2 0) (coll S)))) ([.ref x] : List Value).toArray s 0 0 (mm_A (tw_M x ad) H)) (F0 m 7 ls []) := by
    intro fu; induction fu with
    | zero => intro i H1 F1 L ls hfu; exact absurd hfu (Nat.not_lt_zero _)
    | succ fu ih =>
      intro i H1 F1 L ls hfu hi hl hT he hs ho hS
      have ih_7 := ih
      have hrl := rcN_le hG hW i (s_nv S) (Nat.le_refl _)
      refine lv_iload_n hx hb dX8_collectAll_7 rfl (lv_at hl 1 rfl) ?_
      refine lv_aload_n hx hb dX8_collectAll_8 rfl (lv_at hl 2 rfl) ?_
      refine tw_geta 0 hx hb hts hown hKK hT rfl rfl (hts _ q2498) dX8_collectAll_9 ?_
      refine lv_iconst (v := nI 1) hx hb dX8_collectAll_12 (by decide) ?_
      refine mm_iald (k := 1) hx hb hKK (hT.2.2 0 rfl) mm_le.rf (by show _ < 4210; omega) (by decide) dX8_collectAll_13 ?_
      refine mm_top (y := nI (s_nn S)) ((ho 1 (fun k hk => by omega)).trans hR0.nn) ?_
      refine mm_icmp_ge (tgt := 45) (by omega) (by omega) hx hb dX8_collectAll_14 (by decide) (fun c_14 => ?_) (fun c_14 => ?_)
      · refine lv_iload_n hx hb dX8_collectAll_45 rfl (lv_at hl 0 rfl) ?_
        exact mm_iret (v := nI (s_garb S)) hx hb hr hlk hS (Nat.le_of_ble_eq_true rfl) (Nat.le_of_ble_eq_true rfl) (⟨rfl, F1, hT, (he_1.mono (by decide)).tr (he.mono (by decide)), TR_coll hW hR0 (fun k hk => hs k (by omega)) (fun j hj => ho j (fun k hk => hj k (by omega)))⟩) dX8_collectAll_46
      · refine lv_aload_n hx hb dX8_collectAll_17 rfl (lv_at hl 2 rfl) ?_
        refine tw_geta 11 hx hb hts hown hKK hT rfl rfl (hts _ q2509) dX8_collectAll_18 ?_
        refine lv_iload_n hx hb dX8_collectAll_21 rfl (lv_at hl 1 rfl) ?_
        refine mm_iald (k := i) hx hb hKK (hT.2.2 11 rfl) mm_le.rf (by show _ < 200; omega) (by decide) dX8_collectAll_22 ?_
        refine mm_top (y := nI (rcN S (s_nv S) i)) ((congrFun (he 11 (by decide)) _).trans (h11_1 _ (by omega))) ?_
        refine mm_if_ne (tgt := 39) (by omega) hx hb dX8_collectAll_23 (by decide) (fun c_23 => ?_) (fun c_23 => ?_)
        · have hrc : rch S i = true := (rch_pos i).mp (by omega)
          refine lv_iinc (v := nI (i + 1)) (lv' := [(2, .int (nI (i + 1))), (1, .int (nI (s_garb S))), (0, .ref x)]) hx hb dX8_collectAll_39 hl (k := 1) rfl (nI_add _ _) (by decide) rfl (fun ls hl => ?_)
          refine lv_goto (tgt := 7) hx hb dX8_collectAll_42 (by decide) ?_
          exact ih_7 (i + 1) H1 F1 _ _ (by omega) (by omega) (lv_sub hl [1, 0, 2] rfl) hT he (fun k hk => by by_cases z : k = i; rw [z, hrc, Bool.and_true, ho _ (fun k hk => by omega)]; exact hR0.sto (by omega); exact hs k (by omega)) (fun j hj => ho j (fun k hk => hj k (by omega))) hS
        · have hrc : rch S i = false := by cases z : rch S i with | false => rfl | true => have := (rch_pos i).mpr z; omega
          refine lv_aload_n hx hb dX8_collectAll_26 rfl (lv_at hl 2 rfl) ?_
          refine tw_geta 0 hx hb hts hown hKK hT rfl rfl (hts _ q2498) dX8_collectAll_27 ?_
          refine lv_iload_n hx hb dX8_collectAll_30 rfl (lv_at hl 1 rfl) ?_
          refine mm_rpu (va_runS (As := [.int (nI i)]) (rest := [.ref (ad 0)]) ⟨hx, hb, hml, hown, hts⟩ (t_n l ) (va_cwS 1 hts (lw_S q2464 q2465 q164 q2466) rfl rfl rfl (by decide +kernel) ⟨Nat.le_of_ble_eq_true rfl, Nat.le_of_ble_eq_true rfl⟩) (mm_pS hKK) rfl rfl hl.1 rfl (lv_room (Nat.le_of_ble_eq_true rfl)) dX8_collectAll_31 ⟨Nat.le_of_ble_eq_true rfl, Nat.le_of_ble_eq_true rfl⟩) hS (mm_s0 hS) (fun L_31 hS => ?_)
          refine lv_bipush (v := nI 6) hx hb dX8_collectAll_34 (by decide) ?_
          refine mm_iadd hx hb dX8_collectAll_36 ?_
          refine lv_iconst (v := nI 0) hx hb dX8_collectAll_37 (by decide) ?_
          refine tw_st 0 (k := (2810 + 7 * i + 6)) hx hb hKK hT hS hMa rfl rfl (by show _ < 4210; omega) dX8_collectAll_38 (fun H_38 L_38 hT hz_38 hq_38 hS => ?_)
          refine lv_iinc (v := nI (i + 1)) (lv' := [(2, .int (nI (i + 1))), (1, .int (nI (s_garb S))), (0, .ref x)]) hx hb dX8_collectAll_39 hl (k := 1) rfl (nI_add _ _) (by decide) rfl (fun ls hl => ?_)
          refine lv_goto (tgt := 7) hx hb dX8_collectAll_42 (by decide) ?_
          exact ih_7 (i + 1) H_38 ((tw_u F1 0 (2810 + 7 * i + 6) (nI 0))) _ _ (by omega) (by omega) (lv_sub hl [1, 0, 2] rfl) hT (he.tr (eqx.u (by decide))) (fun k hk => by rw [tw_us]; by_cases z : k = i; rw [z, pk_us, hrc, Bool.and_false]; rfl; rw [pk_un (by omega)]; exact hs k (by omega)) (fun j hj => by rw [tw_us, pk_un (hj i (by omega))]; exact ho j (fun k hk => hj k (by omega))) hS
  exact lp_7 _ 0 H_1 F_1 _ _ (Nat.lt_succ_self _) (by omega) (lv_sub hl [1, 0, 2] rfl) hT eqx.rf (fun k hk => absurd hk (Nat.not_lt_zero _)) (fun j _ => rfl) hS
set_option maxRecDepth 100000 in
theorem t_countNodes (l : Launch) {G : mm_G} {P : mm_H} {H : Heap} {x : Nat} {ad : Nat → Nat} {I : Nat → Int32} {F : Nat → Nat → Int32} {S : sp_S} {k : Nat} (hT : TW G x ad I F H) (hR : TR (F 0) S) (hW : WF S) (hG : HG S) (hk : k < s_nv S) (hl9 : s_rel S k = false) : Mt l yX8_countNodes (ws_ yX8_countNodes cX8_countNodes 2 (some .int)) 7 340 0 0 G P [.ref x, .int (nI k)] H (tw_M x ad) (mm_i (nI (cB (s_nn S) (fun i => decide (List.count i (tn S k) = 1)))) (fun H2 => ∃ F2, TW G x ad I F2 H2 ∧ eqx [11] F F2)) := by
  refine Mt.of (by decide) (Nat.le_of_ble_eq_true rfl) (fun p e s m below meth c ls hx hb hr hlk hml hown hnm hts hKK hsH hl hS => ?_)
  have hl : lv_has ls 2 [(0, .ref x), (1, .int (nI k))] := hl
  have hR0 := hR
  have hMx : mm_A (tw_M x ad) H x := Or.inl (Or.inl rfl)
  have hMa : ∀ j, tw_isA j = true → mm_A (tw_M x ad) H (ad j) := fun j hj => Or.inl (Or.inr ⟨j, hj, rfl⟩)
  have hnv := hW.nv
  have hnn := hW.nn
  have hh3 := hf_le (s_len S k)
  have hln := hG.tn_len hW hk hl9
  refine lv_aload_n hx hb dX8_countNodes_0 rfl (lv_at hl 0 rfl) ?_
  refine mm_rv (va_runV (As := []) (rest := []) ⟨hx, hb, hml, hown, hts⟩ (t_clearReached l hT) (cwV 0 hts (lw_V q2809 q2811 qs105 q164 q2812) rfl rfl rfl (by decide +kernel) ⟨Nat.le_of_ble_eq_true rfl, Nat.le_of_ble_eq_true rfl⟩) (mm_pV hKK (mm_rc hKK hT.2.1 mm_le.rf rfl)) rfl rfl hl.1 rfl (lv_room (Nat.le_of_ble_eq_true rfl)) dX8_countNodes_1 ⟨Nat.le_of_ble_eq_true rfl, Nat.le_of_ble_eq_true rfl⟩) hS (mm_sS hS) (fun H_1 L_1 hB_1 hz_1 hq_1 hS => ?_)
  obtain ⟨F_1, hT, he_1, h0_1⟩ := hB_1
  have hR := TRx he_1 (by decide) hR
  refine lv_aload_n hx hb dX8_countNodes_4 rfl (lv_at hl 0 rfl) ?_
  refine lv_aload_n hx hb dX8_countNodes_5 rfl (lv_at hl 0 rfl) ?_
  refine lv_iload_n hx hb dX8_countNodes_6 rfl (lv_at hl 1 rfl) ?_
  refine mm_rpu (va_runV (As := [.int (nI k)]) (rest := [.ref x]) ⟨hx, hb, hml, hown, hts⟩ (t_root l hT hR hW (by first | assumption | omega)) (cwV 1 hts (lw_V q2729 q2731 qs85 q164 q2732) rfl rfl rfl (by decide +kernel) ⟨Nat.le_of_ble_eq_true rfl, Nat.le_of_ble_eq_true rfl⟩) (mm_pV hKK (mm_rc hKK hT.2.1 mm_le.rf rfl)) rfl rfl hl.1 rfl (lv_room (Nat.le_of_ble_eq_true rfl)) dX8_countNodes_7 ⟨Nat.le_of_ble_eq_true rfl, Nat.le_of_ble_eq_true rfl⟩) hS (mm_s0 hS) (fun L_7 hS => ?_)
  refine mm_rv (va_runV (As := [.int (oI (s_root S k))]) (rest := []) ⟨hx, hb, hml, hown, hts⟩ (t_reach l (hf (s_len S k)) hT hR hW (hG k hk hl9)) (cwV 1 hts (lw_V q2813 q2815 qs106 q164 q2816) rfl rfl rfl (by decide +kernel) ⟨by simp only [mm_rm]; omega, by simp only [mm_rm]; omega⟩) (mm_pV hKK (mm_rc hKK hT.2.1 mm_le.rf rfl)) rfl rfl hl.1 rfl (lv_room (Nat.le_of_ble_eq_true rfl)) dX8_countNodes_10 ⟨Nat.le_of_ble_eq_true rfl, Nat.le_of_ble_eq_true rfl⟩) hS (mm_sS hS) (fun H_10 L_10 hB_10 hz_10 hq_10 hS => ?_)
  obtain ⟨F_10, hT, he_10, h11_10⟩ := hB_10
  have hR := TRx he_10 (by decide) hR
  have hq : ∀ i, i < 200 → F_10 11 i = nI (List.count i (tn S k)) ∧ List.count i (tn S k) < 2 ^ 31 := fun i hi => ⟨by rw [h11_10 i hi, h0_1 i hi, nI_add, Nat.zero_add, hG.tne hk hl9], by have := List.count_le_length (a := i) (l := tn S k); omega⟩
  refine lv_aload_n hx hb dX8_countNodes_13 rfl (lv_at hl 0 rfl) ?_
  refine lv_iconst (v := nI 1) hx hb dX8_countNodes_14 (by decide) ?_
  refine mm_rpu (va_runV (As := [.int (nI 1)]) (rest := []) ⟨hx, hb, hml, hown, hts⟩ (t_countReached l hT hR hW (by omega) hq) (cwV 1 hts (lw_V q2933 q2935 qs117 q164 q2936) rfl rfl rfl (by decide +kernel) ⟨Nat.le_of_ble_eq_true rfl, Nat.le_of_ble_eq_true rfl⟩) (mm_pV hKK (mm_rc hKK hT.2.1 mm_le.rf rfl)) rfl rfl hl.1 rfl (lv_room (Nat.le_of_ble_eq_true rfl)) dX8_countNodes_15 ⟨Nat.le_of_ble_eq_true rfl, Nat.le_of_ble_eq_true rfl⟩) hS (mm_s0 hS) (fun L_15 hS => ?_)
  exact mm_iret (v := nI (cB (s_nn S) (fun i => decide (List.count i (tn S k) = 1)))) hx hb hr hlk hS (Nat.le_of_ble_eq_true rfl) (Nat.le_of_ble_eq_true rfl) (⟨rfl, F_10, hT, he_1.tr he_10⟩) dX8_countNodes_18
set_option maxRecDepth 100000 in
theorem t_countExclusive (l : Launch) {G : mm_G} {P : mm_H} {H : Heap} {x : Nat} {ad : Nat → Nat} {I : Nat → Int32} {F : Nat → Nat → Int32} {S : sp_S} {k : Nat} (hT : TW G x ad I F H) (hR : TR (F 0) S) (hW : WF S) (hG : HG S) (hk : k < s_nv S) (hl9 : s_rel S k = false) : Mt l yX8_countExclusive (ws_ yX8_countExclusive cX8_countExclusive 4 (some .int)) 7 400 0 0 G P [.ref x, .int (nI k)] H (tw_M x ad) (mm_i (nI (s_garb (setR S k) - s_garb S)) (fun H2 => ∃ F2, TW G x ad I F2 H2 ∧ eqx [0, 11] F F2 ∧ TR (F2 0) S)) := by
  refine Mt.of (by decide) (Nat.le_of_ble_eq_true rfl) (fun p e s m below meth c ls hx hb hr hlk hml hown hnm hts hKK hsH hl hS => ?_)
  have hl : lv_has ls 4 [(0, .ref x), (1, .int (nI k))] := hl
  have hR0 := hR
  have hMx : mm_A (tw_M x ad) H x := Or.inl (Or.inl rfl)
  have hMa : ∀ j, tw_isA j = true → mm_A (tw_M x ad) H (ad j) := fun j hj => Or.inl (Or.inr ⟨j, hj, rfl⟩)
  have hnv := hW.nv
  have hnn := hW.nn
  have hgm := garb_mono S k
  refine lv_aload_n hx hb dX8_countExclusive_0 rfl (lv_at hl 0 rfl) ?_
  refine mm_rv (va_runV (As := []) (rest := []) ⟨hx, hb, hml, hown, hts⟩ (t_reachAll l hT hR hW hG) (cwV 0 hts (lw_V q2805 q2807 qs104 q164 q2808) rfl rfl rfl (by decide +kernel) ⟨Nat.le_of_ble_eq_true rfl, Nat.le_of_ble_eq_true rfl⟩) (mm_pV hKK (mm_rc hKK hT.2.1 mm_le.rf rfl)) rfl rfl hl.1 rfl (lv_room (Nat.le_of_ble_eq_true rfl)) dX8_countExclusive_1 ⟨Nat.le_of_ble_eq_true rfl, Nat.le_of_ble_eq_true rfl⟩) hS (mm_sS hS) (fun H_1 L_1 hB_1 hz_1 hq_1 hS => ?_)
  obtain ⟨F_1, hT, he_1, h11_1⟩ := hB_1
  have hR := TRx he_1 (by decide) hR
  refine lv_aload_n hx hb dX8_countExclusive_4 rfl (lv_at hl 0 rfl) ?_
  refine mm_rpu (va_runV (As := []) (rest := []) ⟨hx, hb, hml, hown, hts⟩ (t_countGarbageOf l hT hR hW hG h11_1) (cwV 0 hts (lw_V q2953 q2955 qs120 q164 q2956) rfl rfl rfl (by decide +kernel) ⟨Nat.le_of_ble_eq_true rfl, Nat.le_of_ble_eq_true rfl⟩) (mm_pV hKK (mm_rc hKK hT.2.1 mm_le.rf rfl)) rfl rfl hl.1 rfl (lv_room (Nat.le_of_ble_eq_true rfl)) dX8_countExclusive_5 ⟨Nat.le_of_ble_eq_true rfl, Nat.le_of_ble_eq_true rfl⟩) hS (mm_s0 hS) (fun L_5 hS => ?_)
  refine lv_istore_n (lv' := [(2, .int (nI (s_garb S))), (0, .ref x), (1, .int (nI k))]) hx hb dX8_countExclusive_8 rfl hl (by decide) rfl (fun ls hl => ?_)
  refine lv_aload_n hx hb dX8_countExclusive_9 rfl (lv_at hl 1 rfl) ?_
  refine tw_geta 0 hx hb hts hown hKK hT rfl rfl (hts _ q2498) dX8_countExclusive_10 ?_
  refine lv_iload_n hx hb dX8_countExclusive_13 rfl (lv_at hl 2 rfl) ?_
  refine mm_rpu (va_runS (As := [.int (nI k)]) (rest := [.ref (ad 0)]) ⟨hx, hb, hml, hown, hts⟩ (t_v l ) (va_cwS 1 hts (lw_S q2478 q2479 q164 q2480) rfl rfl rfl (by decide +kernel) ⟨Nat.le_of_ble_eq_true rfl, Nat.le_of_ble_eq_true rfl⟩) (mm_pS hKK) rfl rfl hl.1 rfl (lv_room (Nat.le_of_ble_eq_true rfl)) dX8_countExclusive_14 ⟨Nat.le_of_ble_eq_true rfl, Nat.le_of_ble_eq_true rfl⟩) hS (mm_s0 hS) (fun L_14 hS => ?_)
  refine lv_iconst (v := nI 4) hx hb dX8_countExclusive_17 (by decide) ?_
  refine mm_iadd hx hb dX8_countExclusive_18 ?_
  refine lv_iconst (v := nI 1) hx hb dX8_countExclusive_19 (by decide) ?_
  refine tw_st 0 (k := (10 + 6 * k + 4)) hx hb hKK hT hS hMa rfl rfl (by show _ < 4210; omega) dX8_countExclusive_20 (fun H_20 L_20 hT hz_20 hq_20 hS => ?_)
  have hR := TR_setR hk hW hR
  refine lv_aload_n hx hb dX8_countExclusive_21 rfl (lv_at hl 1 rfl) ?_
  refine mm_rv (va_runV (As := []) (rest := []) ⟨hx, hb, hml, hown, hts⟩ (t_reachAll l hT hR (WF_setR hW) (HG_setR hG)) (cwV 0 hts (lw_V q2805 q2807 qs104 q164 q2808) rfl rfl rfl (by decide +kernel) ⟨Nat.le_of_ble_eq_true rfl, Nat.le_of_ble_eq_true rfl⟩) (mm_pV hKK (mm_rc hKK hT.2.1 mm_le.rf rfl)) rfl rfl hl.1 rfl (lv_room (Nat.le_of_ble_eq_true rfl)) dX8_countExclusive_22 ⟨Nat.le_of_ble_eq_true rfl, Nat.le_of_ble_eq_true rfl⟩) hS (mm_sS hS) (fun H_22 L_22 hB_22 hz_22 hq_22 hS => ?_)
  obtain ⟨F_22, hT, he_22, h11_22⟩ := hB_22
  have hR := TRx he_22 (by decide) hR
  refine lv_aload_n hx hb dX8_countExclusive_25 rfl (lv_at hl 1 rfl) ?_
  refine mm_rpu (va_runV (As := []) (rest := []) ⟨hx, hb, hml, hown, hts⟩ (t_countGarbageOf l hT hR (WF_setR hW) (HG_setR hG) h11_22) (cwV 0 hts (lw_V q2953 q2955 qs120 q164 q2956) rfl rfl rfl (by decide +kernel) ⟨Nat.le_of_ble_eq_true rfl, Nat.le_of_ble_eq_true rfl⟩) (mm_pV hKK (mm_rc hKK hT.2.1 mm_le.rf rfl)) rfl rfl hl.1 rfl (lv_room (Nat.le_of_ble_eq_true rfl)) dX8_countExclusive_26 ⟨Nat.le_of_ble_eq_true rfl, Nat.le_of_ble_eq_true rfl⟩) hS (mm_s0 hS) (fun L_26 hS => ?_)
  refine lv_iload_n hx hb dX8_countExclusive_29 rfl (lv_at hl 0 rfl) ?_
  refine mm_isub (by omega) hx hb dX8_countExclusive_30 ?_
  refine lv_istore_n (lv' := [(3, .int (nI ((s_garb (setR S k)) - (s_garb S)))), (2, .int (nI (s_garb S))), (0, .ref x), (1, .int (nI k))]) hx hb dX8_countExclusive_31 rfl hl (by decide) rfl (fun ls hl => ?_)
  refine lv_aload_n hx hb dX8_countExclusive_32 rfl (lv_at hl 2 rfl) ?_
  refine tw_geta 0 hx hb hts hown hKK hT rfl rfl (hts _ q2498) dX8_countExclusive_33 ?_
  refine lv_iload_n hx hb dX8_countExclusive_36 rfl (lv_at hl 3 rfl) ?_
  refine mm_rpu (va_runS (As := [.int (nI k)]) (rest := [.ref (ad 0)]) ⟨hx, hb, hml, hown, hts⟩ (t_v l ) (va_cwS 1 hts (lw_S q2478 q2479 q164 q2480) rfl rfl rfl (by decide +kernel) ⟨Nat.le_of_ble_eq_true rfl, Nat.le_of_ble_eq_true rfl⟩) (mm_pS hKK) rfl rfl hl.1 rfl (lv_room (Nat.le_of_ble_eq_true rfl)) dX8_countExclusive_37 ⟨Nat.le_of_ble_eq_true rfl, Nat.le_of_ble_eq_true rfl⟩) hS (mm_s0 hS) (fun L_37 hS => ?_)
  refine lv_iconst (v := nI 4) hx hb dX8_countExclusive_40 (by decide) ?_
  refine mm_iadd hx hb dX8_countExclusive_41 ?_
  refine lv_iconst (v := nI 0) hx hb dX8_countExclusive_42 (by decide) ?_
  refine tw_st 0 (k := (10 + 6 * k + 4)) hx hb hKK hT hS hMa rfl rfl (by show _ < 4210; omega) dX8_countExclusive_43 (fun H_43 L_43 hT hz_43 hq_43 hS => ?_)
  have hR := TR_unR hk hW hl9 hR
  refine lv_iload_n hx hb dX8_countExclusive_44 rfl (lv_at hl 0 rfl) ?_
  exact mm_iret (v := nI ((s_garb (setR S k)) - (s_garb S))) hx hb hr hlk hS (Nat.le_of_ble_eq_true rfl) (Nat.le_of_ble_eq_true rfl) (⟨rfl, _, hT, (he_1.mono (by decide)).tr ((eqx.u (by decide)).tr ((he_22.mono (by decide)).tr (eqx.u (by decide)))), hR⟩) dX8_countExclusive_45
