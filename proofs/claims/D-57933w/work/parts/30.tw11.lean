/-! the twin: questions (printed by tools/tw11.py) -/
set_option maxRecDepth 100000 in
theorem t_versionCount (l : Launch) {G : mm_G} {P : mm_H} {H : Heap} {x : Nat} {ad : Nat → Nat} {I : Nat → Int32} {F : Nat → Nat → Int32} {S : sp_S} (hT : TW G x ad I F H) (hR : TR (F 0) S) (hW : WF S) : Mt l yX8_versionCount (ws_ yX8_versionCount cX8_versionCount 1 (some .int)) 6 400 0 0 G P [.ref x] H (tw_M x ad) (mm_i (nI (s_nv S)) (fun H2 => TW G x ad (upd I 6 (nI 0)) F H2)) := by
  refine Mt.of (by decide) (Nat.le_of_ble_eq_true rfl) (fun p e s m below meth c ls hx hb hr hlk hml hown hnm hts hKK hsH hl hS => ?_)
  have hl : lv_has ls 1 [(0, .ref x)] := hl
  have hR0 := hR
  have hMx : mm_A (tw_M x ad) H x := Or.inl (Or.inl rfl)
  have hMa : ∀ j, tw_isA j = true → mm_A (tw_M x ad) H (ad j) := fun j hj => Or.inl (Or.inr ⟨j, hj, rfl⟩)
  have hnv := hW.nv
  have hnn := hW.nn
  refine lv_aload_n hx hb dX8_versionCount_0 rfl (lv_at hl 0 rfl) ?_
  refine lv_iconst (v := nI 0) hx hb dX8_versionCount_1 (by decide) ?_
  refine tw_put 6 hx hb hts hown hKK hT hS (hMx) (by decide) rfl (by decide) ⟨rfl, rfl⟩ (hts _ q2504) dX8_versionCount_2 (fun H_2 L_2 hT hz_2 hq_2 hS => ?_)
  refine lv_aload_n hx hb dX8_versionCount_5 rfl (lv_at hl 0 rfl) ?_
  refine tw_geta 0 hx hb hts hown hKK hT rfl rfl (hts _ q2498) dX8_versionCount_6 ?_
  refine lv_iconst (v := nI 0) hx hb dX8_versionCount_9 (by decide) ?_
  refine mm_iald (k := 0) hx hb hKK (hT.2.2 0 rfl) mm_le.rf (by show _ < 4210; omega) (by decide) dX8_versionCount_10 ?_
  refine mm_top (y := nI (s_nv S)) (hR.nv) ?_
  exact mm_iret (v := nI (s_nv S)) hx hb hr hlk hS (Nat.le_of_ble_eq_true rfl) (Nat.le_of_ble_eq_true rfl) (⟨rfl, hT⟩) dX8_versionCount_11
set_option maxRecDepth 100000 in
theorem t_createdNodes (l : Launch) {G : mm_G} {P : mm_H} {H : Heap} {x : Nat} {ad : Nat → Nat} {I : Nat → Int32} {F : Nat → Nat → Int32} {S : sp_S} (hT : TW G x ad I F H) (hR : TR (F 0) S) (hW : WF S) : Mt l yX8_createdNodes (ws_ yX8_createdNodes cX8_createdNodes 1 (some .int)) 6 400 0 0 G P [.ref x] H (tw_M x ad) (mm_i (nI (s_nn S)) (fun H2 => TW G x ad (upd I 6 (nI 0)) F H2)) := by
  refine Mt.of (by decide) (Nat.le_of_ble_eq_true rfl) (fun p e s m below meth c ls hx hb hr hlk hml hown hnm hts hKK hsH hl hS => ?_)
  have hl : lv_has ls 1 [(0, .ref x)] := hl
  have hR0 := hR
  have hMx : mm_A (tw_M x ad) H x := Or.inl (Or.inl rfl)
  have hMa : ∀ j, tw_isA j = true → mm_A (tw_M x ad) H (ad j) := fun j hj => Or.inl (Or.inr ⟨j, hj, rfl⟩)
  have hnv := hW.nv
  have hnn := hW.nn
  refine lv_aload_n hx hb dX8_createdNodes_0 rfl (lv_at hl 0 rfl) ?_
  refine lv_iconst (v := nI 0) hx hb dX8_createdNodes_1 (by decide) ?_
  refine tw_put 6 hx hb hts hown hKK hT hS (hMx) (by decide) rfl (by decide) ⟨rfl, rfl⟩ (hts _ q2504) dX8_createdNodes_2 (fun H_2 L_2 hT hz_2 hq_2 hS => ?_)
  refine lv_aload_n hx hb dX8_createdNodes_5 rfl (lv_at hl 0 rfl) ?_
  refine tw_geta 0 hx hb hts hown hKK hT rfl rfl (hts _ q2498) dX8_createdNodes_6 ?_
  refine lv_iconst (v := nI 1) hx hb dX8_createdNodes_9 (by decide) ?_
  refine mm_iald (k := 1) hx hb hKK (hT.2.2 0 rfl) mm_le.rf (by show _ < 4210; omega) (by decide) dX8_createdNodes_10 ?_
  refine mm_top (y := nI (s_nn S)) (hR.nn) ?_
  exact mm_iret (v := nI (s_nn S)) hx hb hr hlk hS (Nat.le_of_ble_eq_true rfl) (Nat.le_of_ble_eq_true rfl) (⟨rfl, hT⟩) dX8_createdNodes_11
set_option maxRecDepth 100000 in
theorem t_storedNodes (l : Launch) {G : mm_G} {P : mm_H} {H : Heap} {x : Nat} {ad : Nat → Nat} {I : Nat → Int32} {F : Nat → Nat → Int32} {S : sp_S} (hT : TW G x ad I F H) (hR : TR (F 0) S) (hW : WF S) : Mt l yX8_storedNodes (ws_ yX8_storedNodes cX8_storedNodes 1 (some .int)) 6 400 0 0 G P [.ref x] H (tw_M x ad) (mm_i (nI (cB (s_nn S) (s_sto S))) (fun H2 => TW G x ad (upd I 6 (nI 0)) F H2)) := by
  refine Mt.of (by decide) (Nat.le_of_ble_eq_true rfl) (fun p e s m below meth c ls hx hb hr hlk hml hown hnm hts hKK hsH hl hS => ?_)
  have hl : lv_has ls 1 [(0, .ref x)] := hl
  have hR0 := hR
  have hMx : mm_A (tw_M x ad) H x := Or.inl (Or.inl rfl)
  have hMa : ∀ j, tw_isA j = true → mm_A (tw_M x ad) H (ad j) := fun j hj => Or.inl (Or.inr ⟨j, hj, rfl⟩)
  have hnv := hW.nv
  have hnn := hW.nn
  refine lv_aload_n hx hb dX8_storedNodes_0 rfl (lv_at hl 0 rfl) ?_
  refine lv_iconst (v := nI 0) hx hb dX8_storedNodes_1 (by decide) ?_
  refine tw_put 6 hx hb hts hown hKK hT hS (hMx) (by decide) rfl (by decide) ⟨rfl, rfl⟩ (hts _ q2504) dX8_storedNodes_2 (fun H_2 L_2 hT hz_2 hq_2 hS => ?_)
  refine lv_aload_n hx hb dX8_storedNodes_5 rfl (lv_at hl 0 rfl) ?_
  refine mm_rpu (va_runV (As := []) (rest := []) ⟨hx, hb, hml, hown, hts⟩ (t_countStored l hT hR hW) (cwV 0 hts (lw_V q2913 q2915 qs115 q164 q2916) rfl rfl rfl (by decide +kernel) ⟨Nat.le_of_ble_eq_true rfl, Nat.le_of_ble_eq_true rfl⟩) (mm_pV hKK (mm_rc hKK hT.2.1 mm_le.rf rfl)) rfl rfl hl.1 rfl (lv_room (Nat.le_of_ble_eq_true rfl)) dX8_storedNodes_6 ⟨Nat.le_of_ble_eq_true rfl, Nat.le_of_ble_eq_true rfl⟩) hS (mm_s0 hS) (fun L_6 hS => ?_)
  exact mm_iret (v := nI (cB (s_nn S) (s_sto S))) hx hb hr hlk hS (Nat.le_of_ble_eq_true rfl) (Nat.le_of_ble_eq_true rfl) (⟨rfl, hT⟩) dX8_storedNodes_9
set_option maxRecDepth 100000 in
theorem t_garbageNodes (l : Launch) {G : mm_G} {P : mm_H} {H : Heap} {x : Nat} {ad : Nat → Nat} {I : Nat → Int32} {F : Nat → Nat → Int32} {S : sp_S} (hT : TW G x ad I F H) (hR : TR (F 0) S) (hW : WF S) (hG : HG S) : Mt l yX8_garbageNodes (ws_ yX8_garbageNodes cX8_garbageNodes 1 (some .int)) 9 500 0 0 G P [.ref x] H (tw_M x ad) (mm_i (nI (s_garb S)) (fun H2 => ∃ F2, TW G x ad (upd I 6 (nI 0)) F2 H2 ∧ eqx [11] F F2)) := by
  refine Mt.of (by decide) (Nat.le_of_ble_eq_true rfl) (fun p e s m below meth c ls hx hb hr hlk hml hown hnm hts hKK hsH hl hS => ?_)
  have hl : lv_has ls 1 [(0, .ref x)] := hl
  have hR0 := hR
  have hMx : mm_A (tw_M x ad) H x := Or.inl (Or.inl rfl)
  have hMa : ∀ j, tw_isA j = true → mm_A (tw_M x ad) H (ad j) := fun j hj => Or.inl (Or.inr ⟨j, hj, rfl⟩)
  have hnv := hW.nv
  have hnn := hW.nn
  refine lv_aload_n hx hb dX8_garbageNodes_0 rfl (lv_at hl 0 rfl) ?_
  refine lv_iconst (v := nI 0) hx hb dX8_garbageNodes_1 (by decide) ?_
  refine tw_put 6 hx hb hts hown hKK hT hS (hMx) (by decide) rfl (by decide) ⟨rfl, rfl⟩ (hts _ q2504) dX8_garbageNodes_2 (fun H_2 L_2 hT hz_2 hq_2 hS => ?_)
  refine lv_aload_n hx hb dX8_garbageNodes_5 rfl (lv_at hl 0 rfl) ?_
  refine mm_ri (va_runV (As := []) (rest := []) ⟨hx, hb, hml, hown, hts⟩ (t_countGarbage l hT hR hW hG) (cwV 0 hts (lw_V q2801 q2803 qs103 q164 q2804) rfl rfl rfl (by decide +kernel) ⟨Nat.le_of_ble_eq_true rfl, Nat.le_of_ble_eq_true rfl⟩) (mm_pV hKK (mm_rc hKK hT.2.1 mm_le.rf rfl)) rfl rfl hl.1 rfl (lv_room (Nat.le_of_ble_eq_true rfl)) dX8_garbageNodes_6 ⟨Nat.le_of_ble_eq_true rfl, Nat.le_of_ble_eq_true rfl⟩) hS (mm_sS hS) (fun H_6 L_6 hB_6 hz_6 hq_6 hS => ?_)
  obtain ⟨F_6, hT, he_6, h11_6⟩ := hB_6
  have hR := TRx he_6 (by decide) hR
  exact mm_iret (v := nI (s_garb S)) hx hb hr hlk hS (Nat.le_of_ble_eq_true rfl) (Nat.le_of_ble_eq_true rfl) (⟨rfl, F_6, hT, he_6⟩) dX8_garbageNodes_9
set_option maxRecDepth 100000 in
theorem t_liveCount (l : Launch) {G : mm_G} {P : mm_H} {H : Heap} {x : Nat} {ad : Nat → Nat} {I : Nat → Int32} {F : Nat → Nat → Int32} {S : sp_S} (hT : TW G x ad I F H) (hR : TR (F 0) S) (hW : WF S) : Mt l yX8_liveCount (ws_ yX8_liveCount cX8_liveCount 3 (some .int)) 6 400 0 0 G P [.ref x] H (tw_M x ad) (mm_i (nI (cB (s_nv S) (fun v => !s_rel S v))) (fun H2 => TW G x ad (upd I 6 (nI 0)) F H2)) := by
  refine Mt.of (by decide) (Nat.le_of_ble_eq_true rfl) (fun p e s m below meth c ls hx hb hr hlk hml hown hnm hts hKK hsH hl hS => ?_)
  have hl : lv_has ls 3 [(0, .ref x)] := hl
  have hR0 := hR
  have hMx : mm_A (tw_M x ad) H x := Or.inl (Or.inl rfl)
  have hMa : ∀ j, tw_isA j = true → mm_A (tw_M x ad) H (ad j) := fun j hj => Or.inl (Or.inr ⟨j, hj, rfl⟩)
  have hnv := hW.nv
  have hnn := hW.nn
  refine lv_aload_n hx hb dX8_liveCount_0 rfl (lv_at hl 0 rfl) ?_
  refine lv_iconst (v := nI 0) hx hb dX8_liveCount_1 (by decide) ?_
  refine tw_put 6 hx hb hts hown hKK hT hS (hMx) (by decide) rfl (by decide) ⟨rfl, rfl⟩ (hts _ q2504) dX8_liveCount_2 (fun H_2 L_2 hT hz_2 hq_2 hS => ?_)
  refine lv_iconst (v := nI 0) hx hb dX8_liveCount_5 (by decide) ?_
  refine lv_istore_n (lv' := [(1, .int (nI 0)), (0, .ref x)]) hx hb dX8_liveCount_6 rfl hl (by decide) rfl (fun ls hl => ?_)
  refine lv_iconst (v := nI 0) hx hb dX8_liveCount_7 (by decide) ?_
  refine lv_istore_n (lv' := [(2, .int (nI 0)), (1, .int (nI 0)), (0, .ref x)]) hx hb dX8_liveCount_8 rfl hl (by decide) rfl (fun ls hl => ?_)
  have lp_9 : ∀ (fu : Nat) (i : Nat)  (L : List Loc) (ls : Array Slot), s_nv S - i < fu → (i ≤ s_nv S) → lv_has ls 3 [(1, .int (nI (cB i (fun v => !s_rel S v)))), (2, .int (nI i)), (0, .ref x)] → va_S (mm_A (tw_M x ad) H) H H_2 L → W p l e (mm_rm 6 400 0 0) s m ([.ref x] : List Value).toArray below meth c H_2 L 0 0 (MQ below (mm_Qc H (tw_M x ad) (mm_i (nI (cB (s_nv S) (fun v => !s_rel S v))) (fun H2 => TW G x ad (upd I 6 (nI 0)) F H2))) ([.ref x] : List Value).toArray s 0 0 (mm_A (tw_M x ad) H)) (F0 m 9 ls []) := by
    intro fu; induction fu with
    | zero => intro i L ls hfu; exact absurd hfu (Nat.not_lt_zero _)
    | succ fu ih =>
      intro i L ls hfu hi hl  hS
      have ih_9 := ih
      refine lv_iload_n hx hb dX8_liveCount_9 rfl (lv_at hl 1 rfl) ?_
      refine lv_aload_n hx hb dX8_liveCount_10 rfl (lv_at hl 2 rfl) ?_
      refine tw_geta 0 hx hb hts hown hKK hT rfl rfl (hts _ q2498) dX8_liveCount_11 ?_
      refine lv_iconst (v := nI 0) hx hb dX8_liveCount_14 (by decide) ?_
      refine mm_iald (k := 0) hx hb hKK (hT.2.2 0 rfl) mm_le.rf (by show _ < 4210; omega) (by decide) dX8_liveCount_15 ?_
      refine mm_top (y := nI (s_nv S)) (hR.nv) ?_
      refine mm_icmp_ge (tgt := 44) (by omega) (by omega) hx hb dX8_liveCount_16 (by decide) (fun c_16 => ?_) (fun c_16 => ?_)
      · refine lv_iload_n hx hb dX8_liveCount_44 rfl (lv_at hl 0 rfl) ?_
        exact mm_iret (v := nI (cB i (fun v => !s_rel S v))) hx hb hr hlk hS (Nat.le_of_ble_eq_true rfl) (Nat.le_of_ble_eq_true rfl) (⟨by rw [show s_nv S = i by omega], hT⟩) dX8_liveCount_45
      · refine lv_iload_n hx hb dX8_liveCount_19 rfl (lv_at hl 0 rfl) ?_
        refine lv_aload_n hx hb dX8_liveCount_20 rfl (lv_at hl 2 rfl) ?_
        refine lv_iload_n hx hb dX8_liveCount_21 rfl (lv_at hl 1 rfl) ?_
        refine mm_rpu (va_runV (As := [.int (nI i)]) (rest := [.int (nI (cB i (fun v => !s_rel S v)))]) ⟨hx, hb, hml, hown, hts⟩ (t_isGone l hT hR hW (by first | assumption | omega)) (cwV 1 hts (lw_V q2717 q2719 qs82 q164 q2720) rfl rfl rfl (by decide +kernel) ⟨Nat.le_of_ble_eq_true rfl, Nat.le_of_ble_eq_true rfl⟩) (mm_pV hKK (mm_rc hKK hT.2.1 mm_le.rf rfl)) rfl rfl hl.1 rfl (lv_room (Nat.le_of_ble_eq_true rfl)) dX8_liveCount_22 ⟨Nat.le_of_ble_eq_true rfl, Nat.le_of_ble_eq_true rfl⟩) hS (mm_s0 hS) (fun L_22 hS => ?_)
        refine mm_ifneB (tgt := 32) hx hb dX8_liveCount_25 (by decide) (fun c_25 => ?_) (fun c_25 => ?_)
        · refine lv_iconst (v := nI 0) hx hb dX8_liveCount_32 (by decide) ?_
          refine mm_top (y := mm_b false) rfl ?_
          refine mm_rpu (va_runS (As := [.int (mm_b false)]) (rest := [.int (nI (cB i (fun v => !s_rel S v)))]) ⟨hx, hb, hml, hown, hts⟩ (t_one l ) (va_cwS 1 hts (lw_S q2467 q2468 q164 q2469) rfl rfl rfl (by decide +kernel) ⟨Nat.le_of_ble_eq_true rfl, Nat.le_of_ble_eq_true rfl⟩) (mm_pS hKK) rfl rfl hl.1 rfl (lv_room (Nat.le_of_ble_eq_true rfl)) dX8_liveCount_33 ⟨Nat.le_of_ble_eq_true rfl, Nat.le_of_ble_eq_true rfl⟩) hS (mm_s0 hS) (fun L_33 hS => ?_)
          refine lv_iadd hx hb dX8_liveCount_36 ?_
          refine mm_top (mm_iB _ _) ?_
          refine mm_top (y := nI (cB (i + 1) (fun v => !s_rel S v))) (congrArg nI (by rw [cB_succ]; simp [c_25])) ?_
          refine lv_istore_n (lv' := [(1, .int (nI (cB (i + 1) (fun v => !s_rel S v)))), (2, .int (nI i)), (0, .ref x)]) hx hb dX8_liveCount_37 rfl hl (by decide) rfl (fun ls hl => ?_)
          refine lv_iinc (v := nI (i + 1)) (lv' := [(2, .int (nI (i + 1))), (1, .int (nI (cB (i + 1) (fun v => !s_rel S v)))), (0, .ref x)]) hx hb dX8_liveCount_38 hl (k := 1) rfl (nI_add _ _) (by decide) rfl (fun ls hl => ?_)
          refine lv_goto (tgt := 9) hx hb dX8_liveCount_41 (by decide) ?_
          exact ih_9 (i + 1) _ _ (by omega) (by omega) (lv_sub hl [1, 0, 2] rfl)  hS
        · refine lv_iconst (v := nI 1) hx hb dX8_liveCount_28 (by decide) ?_
          refine mm_top (y := mm_b true) rfl ?_
          refine lv_goto (tgt := 33) hx hb dX8_liveCount_29 (by decide) ?_
          refine mm_rpu (va_runS (As := [.int (mm_b true)]) (rest := [.int (nI (cB i (fun v => !s_rel S v)))]) ⟨hx, hb, hml, hown, hts⟩ (t_one l ) (va_cwS 1 hts (lw_S q2467 q2468 q164 q2469) rfl rfl rfl (by decide +kernel) ⟨Nat.le_of_ble_eq_true rfl, Nat.le_of_ble_eq_true rfl⟩) (mm_pS hKK) rfl rfl hl.1 rfl (lv_room (Nat.le_of_ble_eq_true rfl)) dX8_liveCount_33 ⟨Nat.le_of_ble_eq_true rfl, Nat.le_of_ble_eq_true rfl⟩) hS (mm_s0 hS) (fun L_33 hS => ?_)
          refine lv_iadd hx hb dX8_liveCount_36 ?_
          refine mm_top (mm_iB _ _) ?_
          refine mm_top (y := nI (cB (i + 1) (fun v => !s_rel S v))) (congrArg nI (by rw [cB_succ]; simp [c_25])) ?_
          refine lv_istore_n (lv' := [(1, .int (nI (cB (i + 1) (fun v => !s_rel S v)))), (2, .int (nI i)), (0, .ref x)]) hx hb dX8_liveCount_37 rfl hl (by decide) rfl (fun ls hl => ?_)
          refine lv_iinc (v := nI (i + 1)) (lv' := [(2, .int (nI (i + 1))), (1, .int (nI (cB (i + 1) (fun v => !s_rel S v)))), (0, .ref x)]) hx hb dX8_liveCount_38 hl (k := 1) rfl (nI_add _ _) (by decide) rfl (fun ls hl => ?_)
          refine lv_goto (tgt := 9) hx hb dX8_liveCount_41 (by decide) ?_
          exact ih_9 (i + 1) _ _ (by omega) (by omega) (lv_sub hl [1, 0, 2] rfl)  hS
  exact lp_9 _ 0 _ _ (Nat.lt_succ_self _) (by omega) (lv_sub hl [1, 0, 2] rfl)  hS
set_option maxRecDepth 100000 in
theorem t_parentOf (l : Launch) {G : mm_G} {P : mm_H} {H : Heap} {x : Nat} {ad : Nat → Nat} {I : Nat → Int32} {F : Nat → Nat → Int32} {S : sp_S} {a : Int32} (hT : TW G x ad I F H) (hR : TR (F 0) S) (hW : WF S) : Mt l yX8_parentOf (ws_ yX8_parentOf cX8_parentOf 2 (some .int)) 6 400 0 0 G P [.ref x, .int a] H (tw_M x ad) (mm_i (qv (inR a (s_nv S)) (oI (s_par S a.toNatClampNeg))) (fun H2 => TW G x ad (upd I 6 (ck (inR a (s_nv S)) true true)) F H2)) := by
  refine Mt.of (by decide) (Nat.le_of_ble_eq_true rfl) (fun p e s m below meth c ls hx hb hr hlk hml hown hnm hts hKK hsH hl hS => ?_)
  have hl : lv_has ls 2 [(0, .ref x), (1, .int a)] := hl
  have hR0 := hR
  have hMx : mm_A (tw_M x ad) H x := Or.inl (Or.inl rfl)
  have hMa : ∀ j, tw_isA j = true → mm_A (tw_M x ad) H (ad j) := fun j hj => Or.inl (Or.inr ⟨j, hj, rfl⟩)
  have hnv := hW.nv
  have hnn := hW.nn
  refine lv_aload_n hx hb dX8_parentOf_0 rfl (lv_at hl 0 rfl) ?_
  refine lv_iload_n hx hb dX8_parentOf_1 rfl (lv_at hl 1 rfl) ?_
  refine mm_ri (va_runV (As := [.int a]) (rest := []) ⟨hx, hb, hml, hown, hts⟩ (t_checkVersion l hT hR hW) (cwV 1 hts (lw_V q2837 q2839 qs109 q164 q2840) rfl rfl rfl (by decide +kernel) ⟨Nat.le_of_ble_eq_true rfl, Nat.le_of_ble_eq_true rfl⟩) (mm_pV hKK (mm_rc hKK hT.2.1 mm_le.rf rfl)) rfl rfl hl.1 rfl (lv_room (Nat.le_of_ble_eq_true rfl)) dX8_parentOf_2 ⟨Nat.le_of_ble_eq_true rfl, Nat.le_of_ble_eq_true rfl⟩) hS (mm_sS hS) (fun H_2 L_2 hT hz_2 hq_2 hS => ?_)
  refine mm_ifeqB (tgt := 22) hx hb dX8_parentOf_5 (by decide) (fun c_5 => ?_) (fun c_5 => ?_)
  · refine lv_iconst (v := nI 0) hx hb dX8_parentOf_22 (by decide) ?_
    exact mm_iret (v := nI 0) hx hb hr hlk hS (Nat.le_of_ble_eq_true rfl) (Nat.le_of_ble_eq_true rfl) (⟨by rw [qv_f c_5]; rfl, hT⟩) dX8_parentOf_23
  · have hina := c_5
    obtain ⟨ja, hja, heja, hcja⟩ := inR_t hina
    rw [heja] at hl
    refine lv_aload_n hx hb dX8_parentOf_8 rfl (lv_at hl 0 rfl) ?_
    refine tw_geta 0 hx hb hts hown hKK hT rfl rfl (hts _ q2498) dX8_parentOf_9 ?_
    refine lv_iload_n hx hb dX8_parentOf_12 rfl (lv_at hl 1 rfl) ?_
    refine mm_rpu (va_runS (As := [.int (nI ja)]) (rest := [.ref (ad 0)]) ⟨hx, hb, hml, hown, hts⟩ (t_v l ) (va_cwS 1 hts (lw_S q2478 q2479 q164 q2480) rfl rfl rfl (by decide +kernel) ⟨Nat.le_of_ble_eq_true rfl, Nat.le_of_ble_eq_true rfl⟩) (mm_pS hKK) rfl rfl hl.1 rfl (lv_room (Nat.le_of_ble_eq_true rfl)) dX8_parentOf_13 ⟨Nat.le_of_ble_eq_true rfl, Nat.le_of_ble_eq_true rfl⟩) hS (mm_s0 hS) (fun L_13 hS => ?_)
    refine lv_iconst (v := nI 3) hx hb dX8_parentOf_16 (by decide) ?_
    refine mm_iadd hx hb dX8_parentOf_17 ?_
    refine mm_iald (k := (10 + 6 * ja + 3)) hx hb hKK (hT.2.2 0 rfl) mm_le.rf (by show _ < 4210; omega) (by decide) dX8_parentOf_18 ?_
    refine mm_top (y := oI (s_par S ja)) (hR.par hja) ?_
    refine lv_goto (tgt := 23) hx hb dX8_parentOf_19 (by decide) ?_
    exact mm_iret (v := oI (s_par S ja)) hx hb hr hlk hS (Nat.le_of_ble_eq_true rfl) (Nat.le_of_ble_eq_true rfl) (⟨by rw [qv_t c_5, hcja], hT⟩) dX8_parentOf_23
set_option maxRecDepth 100000 in
theorem t_depthOf (l : Launch) {G : mm_G} {P : mm_H} {H : Heap} {x : Nat} {ad : Nat → Nat} {I : Nat → Int32} {F : Nat → Nat → Int32} {S : sp_S} {a : Int32} (hT : TW G x ad I F H) (hR : TR (F 0) S) (hW : WF S) : Mt l yX8_depthOf (ws_ yX8_depthOf cX8_depthOf 2 (some .int)) 6 400 0 0 G P [.ref x, .int a] H (tw_M x ad) (mm_i (qv (inR a (s_nv S)) (nI (dep S a.toNatClampNeg))) (fun H2 => TW G x ad (upd I 6 (ck (inR a (s_nv S)) true true)) F H2)) := by
  refine Mt.of (by decide) (Nat.le_of_ble_eq_true rfl) (fun p e s m below meth c ls hx hb hr hlk hml hown hnm hts hKK hsH hl hS => ?_)
  have hl : lv_has ls 2 [(0, .ref x), (1, .int a)] := hl
  have hR0 := hR
  have hMx : mm_A (tw_M x ad) H x := Or.inl (Or.inl rfl)
  have hMa : ∀ j, tw_isA j = true → mm_A (tw_M x ad) H (ad j) := fun j hj => Or.inl (Or.inr ⟨j, hj, rfl⟩)
  have hnv := hW.nv
  have hnn := hW.nn
  refine lv_aload_n hx hb dX8_depthOf_0 rfl (lv_at hl 0 rfl) ?_
  refine lv_iload_n hx hb dX8_depthOf_1 rfl (lv_at hl 1 rfl) ?_
  refine mm_ri (va_runV (As := [.int a]) (rest := []) ⟨hx, hb, hml, hown, hts⟩ (t_checkVersion l hT hR hW) (cwV 1 hts (lw_V q2837 q2839 qs109 q164 q2840) rfl rfl rfl (by decide +kernel) ⟨Nat.le_of_ble_eq_true rfl, Nat.le_of_ble_eq_true rfl⟩) (mm_pV hKK (mm_rc hKK hT.2.1 mm_le.rf rfl)) rfl rfl hl.1 rfl (lv_room (Nat.le_of_ble_eq_true rfl)) dX8_depthOf_2 ⟨Nat.le_of_ble_eq_true rfl, Nat.le_of_ble_eq_true rfl⟩) hS (mm_sS hS) (fun H_2 L_2 hT hz_2 hq_2 hS => ?_)
  refine mm_ifeqB (tgt := 16) hx hb dX8_depthOf_5 (by decide) (fun c_5 => ?_) (fun c_5 => ?_)
  · refine lv_iconst (v := nI 0) hx hb dX8_depthOf_16 (by decide) ?_
    exact mm_iret (v := nI 0) hx hb hr hlk hS (Nat.le_of_ble_eq_true rfl) (Nat.le_of_ble_eq_true rfl) (⟨by rw [qv_f c_5]; rfl, hT⟩) dX8_depthOf_17
  · have hina := c_5
    obtain ⟨ja, hja, heja, hcja⟩ := inR_t hina
    rw [heja] at hl
    refine lv_aload_n hx hb dX8_depthOf_8 rfl (lv_at hl 0 rfl) ?_
    refine lv_iload_n hx hb dX8_depthOf_9 rfl (lv_at hl 1 rfl) ?_
    refine mm_rpu (va_runV (As := [.int (nI ja)]) (rest := []) ⟨hx, hb, hml, hown, hts⟩ (t_depth l hT hR hW (by first | assumption | omega)) (cwV 1 hts (lw_V q2853 q2855 qs111 q164 q2856) rfl rfl rfl (by decide +kernel) ⟨Nat.le_of_ble_eq_true rfl, Nat.le_of_ble_eq_true rfl⟩) (mm_pV hKK (mm_rc hKK hT.2.1 mm_le.rf rfl)) rfl rfl hl.1 rfl (lv_room (Nat.le_of_ble_eq_true rfl)) dX8_depthOf_10 ⟨Nat.le_of_ble_eq_true rfl, Nat.le_of_ble_eq_true rfl⟩) hS (mm_s0 hS) (fun L_10 hS => ?_)
    refine lv_goto (tgt := 17) hx hb dX8_depthOf_13 (by decide) ?_
    exact mm_iret (v := nI (dep S ja)) hx hb hr hlk hS (Nat.le_of_ble_eq_true rfl) (Nat.le_of_ble_eq_true rfl) (⟨by rw [qv_t c_5, hcja], hT⟩) dX8_depthOf_17
set_option maxRecDepth 100000 in
theorem t_nodesCreatedFor (l : Launch) {G : mm_G} {P : mm_H} {H : Heap} {x : Nat} {ad : Nat → Nat} {I : Nat → Int32} {F : Nat → Nat → Int32} {S : sp_S} {a : Int32} (hT : TW G x ad I F H) (hR : TR (F 0) S) (hW : WF S) : Mt l yX8_nodesCreatedFor (ws_ yX8_nodesCreatedFor cX8_nodesCreatedFor 2 (some .int)) 6 400 0 0 G P [.ref x, .int a] H (tw_M x ad) (mm_i (qv (inR a (s_nv S)) (nI (s_cre S a.toNatClampNeg))) (fun H2 => TW G x ad (upd I 6 (ck (inR a (s_nv S)) true true)) F H2)) := by
  refine Mt.of (by decide) (Nat.le_of_ble_eq_true rfl) (fun p e s m below meth c ls hx hb hr hlk hml hown hnm hts hKK hsH hl hS => ?_)
  have hl : lv_has ls 2 [(0, .ref x), (1, .int a)] := hl
  have hR0 := hR
  have hMx : mm_A (tw_M x ad) H x := Or.inl (Or.inl rfl)
  have hMa : ∀ j, tw_isA j = true → mm_A (tw_M x ad) H (ad j) := fun j hj => Or.inl (Or.inr ⟨j, hj, rfl⟩)
  have hnv := hW.nv
  have hnn := hW.nn
  refine lv_aload_n hx hb dX8_nodesCreatedFor_0 rfl (lv_at hl 0 rfl) ?_
  refine lv_iload_n hx hb dX8_nodesCreatedFor_1 rfl (lv_at hl 1 rfl) ?_
  refine mm_ri (va_runV (As := [.int a]) (rest := []) ⟨hx, hb, hml, hown, hts⟩ (t_checkVersion l hT hR hW) (cwV 1 hts (lw_V q2837 q2839 qs109 q164 q2840) rfl rfl rfl (by decide +kernel) ⟨Nat.le_of_ble_eq_true rfl, Nat.le_of_ble_eq_true rfl⟩) (mm_pV hKK (mm_rc hKK hT.2.1 mm_le.rf rfl)) rfl rfl hl.1 rfl (lv_room (Nat.le_of_ble_eq_true rfl)) dX8_nodesCreatedFor_2 ⟨Nat.le_of_ble_eq_true rfl, Nat.le_of_ble_eq_true rfl⟩) hS (mm_sS hS) (fun H_2 L_2 hT hz_2 hq_2 hS => ?_)
  refine mm_ifeqB (tgt := 22) hx hb dX8_nodesCreatedFor_5 (by decide) (fun c_5 => ?_) (fun c_5 => ?_)
  · refine lv_iconst (v := nI 0) hx hb dX8_nodesCreatedFor_22 (by decide) ?_
    exact mm_iret (v := nI 0) hx hb hr hlk hS (Nat.le_of_ble_eq_true rfl) (Nat.le_of_ble_eq_true rfl) (⟨by rw [qv_f c_5]; rfl, hT⟩) dX8_nodesCreatedFor_23
  · have hina := c_5
    obtain ⟨ja, hja, heja, hcja⟩ := inR_t hina
    rw [heja] at hl
    refine lv_aload_n hx hb dX8_nodesCreatedFor_8 rfl (lv_at hl 0 rfl) ?_
    refine tw_geta 0 hx hb hts hown hKK hT rfl rfl (hts _ q2498) dX8_nodesCreatedFor_9 ?_
    refine lv_iload_n hx hb dX8_nodesCreatedFor_12 rfl (lv_at hl 1 rfl) ?_
    refine mm_rpu (va_runS (As := [.int (nI ja)]) (rest := [.ref (ad 0)]) ⟨hx, hb, hml, hown, hts⟩ (t_v l ) (va_cwS 1 hts (lw_S q2478 q2479 q164 q2480) rfl rfl rfl (by decide +kernel) ⟨Nat.le_of_ble_eq_true rfl, Nat.le_of_ble_eq_true rfl⟩) (mm_pS hKK) rfl rfl hl.1 rfl (lv_room (Nat.le_of_ble_eq_true rfl)) dX8_nodesCreatedFor_13 ⟨Nat.le_of_ble_eq_true rfl, Nat.le_of_ble_eq_true rfl⟩) hS (mm_s0 hS) (fun L_13 hS => ?_)
    refine lv_iconst (v := nI 5) hx hb dX8_nodesCreatedFor_16 (by decide) ?_
    refine mm_iadd hx hb dX8_nodesCreatedFor_17 ?_
    refine mm_iald (k := (10 + 6 * ja + 5)) hx hb hKK (hT.2.2 0 rfl) mm_le.rf (by show _ < 4210; omega) (by decide) dX8_nodesCreatedFor_18 ?_
    refine mm_top (y := nI (s_cre S ja)) (hR.cre hja) ?_
    refine lv_goto (tgt := 23) hx hb dX8_nodesCreatedFor_19 (by decide) ?_
    exact mm_iret (v := nI (s_cre S ja)) hx hb hr hlk hS (Nat.le_of_ble_eq_true rfl) (Nat.le_of_ble_eq_true rfl) (⟨by rw [qv_t c_5, hcja], hT⟩) dX8_nodesCreatedFor_23
set_option maxRecDepth 100000 in
theorem t_size (l : Launch) {G : mm_G} {P : mm_H} {H : Heap} {x : Nat} {ad : Nat → Nat} {I : Nat → Int32} {F : Nat → Nat → Int32} {S : sp_S} {a : Int32} (hT : TW G x ad I F H) (hR : TR (F 0) S) (hW : WF S) : Mt l yX8_size (ws_ yX8_size cX8_size 2 (some .int)) 6 400 0 0 G P [.ref x, .int a] H (tw_M x ad) (mm_i (qv (isLv S a) (nI (s_len S a.toNatClampNeg))) (fun H2 => TW G x ad (upd I 6 (ck (inR a (s_nv S)) (isLv S a) true)) F H2)) := by
  refine Mt.of (by decide) (Nat.le_of_ble_eq_true rfl) (fun p e s m below meth c ls hx hb hr hlk hml hown hnm hts hKK hsH hl hS => ?_)
  have hl : lv_has ls 2 [(0, .ref x), (1, .int a)] := hl
  have hR0 := hR
  have hMx : mm_A (tw_M x ad) H x := Or.inl (Or.inl rfl)
  have hMa : ∀ j, tw_isA j = true → mm_A (tw_M x ad) H (ad j) := fun j hj => Or.inl (Or.inr ⟨j, hj, rfl⟩)
  have hnv := hW.nv
  have hnn := hW.nn
  refine lv_aload_n hx hb dX8_size_0 rfl (lv_at hl 0 rfl) ?_
  refine lv_iload_n hx hb dX8_size_1 rfl (lv_at hl 1 rfl) ?_
  refine mm_ri (va_runV (As := [.int a]) (rest := []) ⟨hx, hb, hml, hown, hts⟩ (t_checkLive l hT hR hW) (cwV 1 hts (lw_V q2869 q2871 qs112 q164 q2872) rfl rfl rfl (by decide +kernel) ⟨Nat.le_of_ble_eq_true rfl, Nat.le_of_ble_eq_true rfl⟩) (mm_pV hKK (mm_rc hKK hT.2.1 mm_le.rf rfl)) rfl rfl hl.1 rfl (lv_room (Nat.le_of_ble_eq_true rfl)) dX8_size_2 ⟨Nat.le_of_ble_eq_true rfl, Nat.le_of_ble_eq_true rfl⟩) hS (mm_sS hS) (fun H_2 L_2 hT hz_2 hq_2 hS => ?_)
  refine mm_ifeqB (tgt := 16) hx hb dX8_size_5 (by decide) (fun c_5 => ?_) (fun c_5 => ?_)
  · refine lv_iconst (v := nI 0) hx hb dX8_size_16 (by decide) ?_
    exact mm_iret (v := nI 0) hx hb hr hlk hS (Nat.le_of_ble_eq_true rfl) (Nat.le_of_ble_eq_true rfl) (⟨by rw [qv_f c_5]; rfl, hT⟩) dX8_size_17
  · obtain ⟨hina, hrla⟩ := isLv_in c_5
    obtain ⟨ja, hja, heja, hcja⟩ := inR_t hina
    rw [heja] at hl
    rw [hcja] at hrla
    refine lv_aload_n hx hb dX8_size_8 rfl (lv_at hl 0 rfl) ?_
    refine lv_iload_n hx hb dX8_size_9 rfl (lv_at hl 1 rfl) ?_
    refine mm_rpu (va_runV (As := [.int (nI ja)]) (rest := []) ⟨hx, hb, hml, hown, hts⟩ (t_lengthOf l hT hR hW (by first | assumption | omega)) (cwV 1 hts (lw_V q2487 q2489 qs60 q164 q2490) rfl rfl rfl (by decide +kernel) ⟨Nat.le_of_ble_eq_true rfl, Nat.le_of_ble_eq_true rfl⟩) (mm_pV hKK (mm_rc hKK hT.2.1 mm_le.rf rfl)) rfl rfl hl.1 rfl (lv_room (Nat.le_of_ble_eq_true rfl)) dX8_size_10 ⟨Nat.le_of_ble_eq_true rfl, Nat.le_of_ble_eq_true rfl⟩) hS (mm_s0 hS) (fun L_10 hS => ?_)
    refine lv_goto (tgt := 17) hx hb dX8_size_13 (by decide) ?_
    exact mm_iret (v := nI (s_len S ja)) hx hb hr hlk hS (Nat.le_of_ble_eq_true rfl) (Nat.le_of_ble_eq_true rfl) (⟨by rw [qv_t c_5, hcja], hT⟩) dX8_size_17
set_option maxRecDepth 100000 in
theorem t_height (l : Launch) {G : mm_G} {P : mm_H} {H : Heap} {x : Nat} {ad : Nat → Nat} {I : Nat → Int32} {F : Nat → Nat → Int32} {S : sp_S} {a : Int32} (hT : TW G x ad I F H) (hR : TR (F 0) S) (hW : WF S) : Mt l yX8_height (ws_ yX8_height cX8_height 2 (some .int)) 6 400 0 0 G P [.ref x, .int a] H (tw_M x ad) (mm_i (qv (isLv S a) (nI (hf (s_len S a.toNatClampNeg)))) (fun H2 => TW G x ad (upd I 6 (ck (inR a (s_nv S)) (isLv S a) true)) F H2)) := by
  refine Mt.of (by decide) (Nat.le_of_ble_eq_true rfl) (fun p e s m below meth c ls hx hb hr hlk hml hown hnm hts hKK hsH hl hS => ?_)
  have hl : lv_has ls 2 [(0, .ref x), (1, .int a)] := hl
  have hR0 := hR
  have hMx : mm_A (tw_M x ad) H x := Or.inl (Or.inl rfl)
  have hMa : ∀ j, tw_isA j = true → mm_A (tw_M x ad) H (ad j) := fun j hj => Or.inl (Or.inr ⟨j, hj, rfl⟩)
  have hnv := hW.nv
  have hnn := hW.nn
  refine lv_aload_n hx hb dX8_height_0 rfl (lv_at hl 0 rfl) ?_
  refine lv_iload_n hx hb dX8_height_1 rfl (lv_at hl 1 rfl) ?_
  refine mm_ri (va_runV (As := [.int a]) (rest := []) ⟨hx, hb, hml, hown, hts⟩ (t_checkLive l hT hR hW) (cwV 1 hts (lw_V q2869 q2871 qs112 q164 q2872) rfl rfl rfl (by decide +kernel) ⟨Nat.le_of_ble_eq_true rfl, Nat.le_of_ble_eq_true rfl⟩) (mm_pV hKK (mm_rc hKK hT.2.1 mm_le.rf rfl)) rfl rfl hl.1 rfl (lv_room (Nat.le_of_ble_eq_true rfl)) dX8_height_2 ⟨Nat.le_of_ble_eq_true rfl, Nat.le_of_ble_eq_true rfl⟩) hS (mm_sS hS) (fun H_2 L_2 hT hz_2 hq_2 hS => ?_)
  refine mm_ifeqB (tgt := 16) hx hb dX8_height_5 (by decide) (fun c_5 => ?_) (fun c_5 => ?_)
  · refine lv_iconst (v := nI 0) hx hb dX8_height_16 (by decide) ?_
    exact mm_iret (v := nI 0) hx hb hr hlk hS (Nat.le_of_ble_eq_true rfl) (Nat.le_of_ble_eq_true rfl) (⟨by rw [qv_f c_5]; rfl, hT⟩) dX8_height_17
  · obtain ⟨hina, hrla⟩ := isLv_in c_5
    obtain ⟨ja, hja, heja, hcja⟩ := inR_t hina
    rw [heja] at hl
    rw [hcja] at hrla
    refine lv_aload_n hx hb dX8_height_8 rfl (lv_at hl 0 rfl) ?_
    refine lv_iload_n hx hb dX8_height_9 rfl (lv_at hl 1 rfl) ?_
    refine mm_rpu (va_runV (As := [.int (nI ja)]) (rest := []) ⟨hx, hb, hml, hown, hts⟩ (t_heightOf l hT hR hW (by first | assumption | omega)) (cwV 1 hts (lw_V q2733 q2735 qs86 q164 q2736) rfl rfl rfl (by decide +kernel) ⟨Nat.le_of_ble_eq_true rfl, Nat.le_of_ble_eq_true rfl⟩) (mm_pV hKK (mm_rc hKK hT.2.1 mm_le.rf rfl)) rfl rfl hl.1 rfl (lv_room (Nat.le_of_ble_eq_true rfl)) dX8_height_10 ⟨Nat.le_of_ble_eq_true rfl, Nat.le_of_ble_eq_true rfl⟩) hS (mm_s0 hS) (fun L_10 hS => ?_)
    refine lv_goto (tgt := 17) hx hb dX8_height_13 (by decide) ?_
    exact mm_iret (v := nI (hf (s_len S ja))) hx hb hr hlk hS (Nat.le_of_ble_eq_true rfl) (Nat.le_of_ble_eq_true rfl) (⟨by rw [qv_t c_5, hcja], hT⟩) dX8_height_17
set_option maxRecDepth 100000 in
theorem t_rootOf (l : Launch) {G : mm_G} {P : mm_H} {H : Heap} {x : Nat} {ad : Nat → Nat} {I : Nat → Int32} {F : Nat → Nat → Int32} {S : sp_S} {a : Int32} (hT : TW G x ad I F H) (hR : TR (F 0) S) (hW : WF S) : Mt l yX8_rootOf (ws_ yX8_rootOf cX8_rootOf 2 (some .int)) 6 400 0 0 G P [.ref x, .int a] H (tw_M x ad) (mm_i (qv (isLv S a) (oI (s_root S a.toNatClampNeg))) (fun H2 => TW G x ad (upd I 6 (ck (inR a (s_nv S)) (isLv S a) true)) F H2)) := by
  refine Mt.of (by decide) (Nat.le_of_ble_eq_true rfl) (fun p e s m below meth c ls hx hb hr hlk hml hown hnm hts hKK hsH hl hS => ?_)
  have hl : lv_has ls 2 [(0, .ref x), (1, .int a)] := hl
  have hR0 := hR
  have hMx : mm_A (tw_M x ad) H x := Or.inl (Or.inl rfl)
  have hMa : ∀ j, tw_isA j = true → mm_A (tw_M x ad) H (ad j) := fun j hj => Or.inl (Or.inr ⟨j, hj, rfl⟩)
  have hnv := hW.nv
  have hnn := hW.nn
  refine lv_aload_n hx hb dX8_rootOf_0 rfl (lv_at hl 0 rfl) ?_
  refine lv_iload_n hx hb dX8_rootOf_1 rfl (lv_at hl 1 rfl) ?_
  refine mm_ri (va_runV (As := [.int a]) (rest := []) ⟨hx, hb, hml, hown, hts⟩ (t_checkLive l hT hR hW) (cwV 1 hts (lw_V q2869 q2871 qs112 q164 q2872) rfl rfl rfl (by decide +kernel) ⟨Nat.le_of_ble_eq_true rfl, Nat.le_of_ble_eq_true rfl⟩) (mm_pV hKK (mm_rc hKK hT.2.1 mm_le.rf rfl)) rfl rfl hl.1 rfl (lv_room (Nat.le_of_ble_eq_true rfl)) dX8_rootOf_2 ⟨Nat.le_of_ble_eq_true rfl, Nat.le_of_ble_eq_true rfl⟩) hS (mm_sS hS) (fun H_2 L_2 hT hz_2 hq_2 hS => ?_)
  refine mm_ifeqB (tgt := 16) hx hb dX8_rootOf_5 (by decide) (fun c_5 => ?_) (fun c_5 => ?_)
  · refine lv_iconst (v := nI 0) hx hb dX8_rootOf_16 (by decide) ?_
    exact mm_iret (v := nI 0) hx hb hr hlk hS (Nat.le_of_ble_eq_true rfl) (Nat.le_of_ble_eq_true rfl) (⟨by rw [qv_f c_5]; rfl, hT⟩) dX8_rootOf_17
  · obtain ⟨hina, hrla⟩ := isLv_in c_5
    obtain ⟨ja, hja, heja, hcja⟩ := inR_t hina
    rw [heja] at hl
    rw [hcja] at hrla
    refine lv_aload_n hx hb dX8_rootOf_8 rfl (lv_at hl 0 rfl) ?_
    refine lv_iload_n hx hb dX8_rootOf_9 rfl (lv_at hl 1 rfl) ?_
    refine mm_rpu (va_runV (As := [.int (nI ja)]) (rest := []) ⟨hx, hb, hml, hown, hts⟩ (t_root l hT hR hW (by first | assumption | omega)) (cwV 1 hts (lw_V q2729 q2731 qs85 q164 q2732) rfl rfl rfl (by decide +kernel) ⟨Nat.le_of_ble_eq_true rfl, Nat.le_of_ble_eq_true rfl⟩) (mm_pV hKK (mm_rc hKK hT.2.1 mm_le.rf rfl)) rfl rfl hl.1 rfl (lv_room (Nat.le_of_ble_eq_true rfl)) dX8_rootOf_10 ⟨Nat.le_of_ble_eq_true rfl, Nat.le_of_ble_eq_true rfl⟩) hS (mm_s0 hS) (fun L_10 hS => ?_)
    refine lv_goto (tgt := 17) hx hb dX8_rootOf_13 (by decide) ?_
    exact mm_iret (v := oI (s_root S ja)) hx hb hr hlk hS (Nat.le_of_ble_eq_true rfl) (Nat.le_of_ble_eq_true rfl) (⟨by rw [qv_t c_5, hcja], hT⟩) dX8_rootOf_17
set_option maxRecDepth 100000 in
theorem t_get (l : Launch) {G : mm_G} {P : mm_H} {H : Heap} {x : Nat} {ad : Nat → Nat} {I : Nat → Int32} {F : Nat → Nat → Int32} {S : sp_S} {a b : Int32} (hT : TW G x ad I F H) (hR : TR (F 0) S) (hW : WF S) : Mt l yX8_get (ws_ yX8_get cX8_get 3 (some .int)) 6 400 0 0 G P [.ref x, .int a, .int b] H (tw_M x ad) (mm_i (qv (isEl S a b) (s_els S a.toNatClampNeg b.toNatClampNeg)) (fun H2 => TW G x ad (upd I 6 (ck (hasE S a b) (isEl S a b) true)) F H2)) := by
  refine Mt.of (by decide) (Nat.le_of_ble_eq_true rfl) (fun p e s m below meth c ls hx hb hr hlk hml hown hnm hts hKK hsH hl hS => ?_)
  have hl : lv_has ls 3 [(0, .ref x), (1, .int a), (2, .int b)] := hl
  have hR0 := hR
  have hMx : mm_A (tw_M x ad) H x := Or.inl (Or.inl rfl)
  have hMa : ∀ j, tw_isA j = true → mm_A (tw_M x ad) H (ad j) := fun j hj => Or.inl (Or.inr ⟨j, hj, rfl⟩)
  have hnv := hW.nv
  have hnn := hW.nn
  refine lv_aload_n hx hb dX8_get_0 rfl (lv_at hl 0 rfl) ?_
  refine lv_iload_n hx hb dX8_get_1 rfl (lv_at hl 1 rfl) ?_
  refine lv_iload_n hx hb dX8_get_2 rfl (lv_at hl 2 rfl) ?_
  refine mm_ri (va_runV (As := [.int a, .int b]) (rest := []) ⟨hx, hb, hml, hown, hts⟩ (t_checkElement l hT hR hW) (cwV 2 hts (lw_V q2885 q2887 qs113 q164 q2888) rfl rfl rfl (by decide +kernel) ⟨Nat.le_of_ble_eq_true rfl, Nat.le_of_ble_eq_true rfl⟩) (mm_pV hKK (mm_rc hKK hT.2.1 mm_le.rf rfl)) rfl rfl hl.1 rfl (lv_room (Nat.le_of_ble_eq_true rfl)) dX8_get_3 ⟨Nat.le_of_ble_eq_true rfl, Nat.le_of_ble_eq_true rfl⟩) hS (mm_sS hS) (fun H_3 L_3 hT hz_3 hq_3 hS => ?_)
  refine mm_ifeqB (tgt := 18) hx hb dX8_get_6 (by decide) (fun c_6 => ?_) (fun c_6 => ?_)
  · refine lv_iconst (v := nI 0) hx hb dX8_get_18 (by decide) ?_
    exact mm_iret (v := nI 0) hx hb hr hlk hS (Nat.le_of_ble_eq_true rfl) (Nat.le_of_ble_eq_true rfl) (⟨by rw [qv_f c_6]; rfl, hT⟩) dX8_get_19
  · obtain ⟨hina, hrla, hinb⟩ := isEl_in c_6
    obtain ⟨ja, hja, heja, hcja⟩ := inR_t hina
    rw [heja] at hl
    rw [hcja] at hrla hinb
    obtain ⟨jb, hjb, hejb, hcjb⟩ := inR_t hinb
    rw [hejb] at hl
    have hlena := hW.len hja
    refine lv_aload_n hx hb dX8_get_9 rfl (lv_at hl 0 rfl) ?_
    refine lv_iload_n hx hb dX8_get_10 rfl (lv_at hl 1 rfl) ?_
    refine lv_iload_n hx hb dX8_get_11 rfl (lv_at hl 2 rfl) ?_
    refine mm_rpu (va_runV (As := [.int (nI ja), .int (nI jb)]) (rest := []) ⟨hx, hb, hml, hown, hts⟩ (t_element l hT hR hW (by first | assumption | omega) (by first | assumption | omega)) (cwV 2 hts (lw_V q2494 q2496 qs61 q164 q2497) rfl rfl rfl (by decide +kernel) ⟨Nat.le_of_ble_eq_true rfl, Nat.le_of_ble_eq_true rfl⟩) (mm_pV hKK (mm_rc hKK hT.2.1 mm_le.rf rfl)) rfl rfl hl.1 rfl (lv_room (Nat.le_of_ble_eq_true rfl)) dX8_get_12 ⟨Nat.le_of_ble_eq_true rfl, Nat.le_of_ble_eq_true rfl⟩) hS (mm_s0 hS) (fun L_12 hS => ?_)
    refine lv_goto (tgt := 19) hx hb dX8_get_15 (by decide) ?_
    exact mm_iret (v := s_els S ja jb) hx hb hr hlk hS (Nat.le_of_ble_eq_true rfl) (Nat.le_of_ble_eq_true rfl) (⟨by rw [qv_t c_6, hcja, hcjb], hT⟩) dX8_get_19
set_option maxRecDepth 100000 in
theorem t_entryCount (l : Launch) {G : mm_G} {P : mm_H} {H : Heap} {x : Nat} {ad : Nat → Nat} {I : Nat → Int32} {F : Nat → Nat → Int32} {S : sp_S} {a : Int32} (hT : TW G x ad I F H) (hR : TR (F 0) S) (hW : WF S) : Mt l yX8_entryCount (ws_ yX8_entryCount cX8_entryCount 2 (some .int)) 6 400 0 0 G P [.ref x, .int a] H (tw_M x ad) (mm_i (qv (isSt S a) (nI (s_cnt S a.toNatClampNeg))) (fun H2 => TW G x ad (upd I 6 (ck (isSt S a) true true)) F H2)) := by
  refine Mt.of (by decide) (Nat.le_of_ble_eq_true rfl) (fun p e s m below meth c ls hx hb hr hlk hml hown hnm hts hKK hsH hl hS => ?_)
  have hl : lv_has ls 2 [(0, .ref x), (1, .int a)] := hl
  have hR0 := hR
  have hMx : mm_A (tw_M x ad) H x := Or.inl (Or.inl rfl)
  have hMa : ∀ j, tw_isA j = true → mm_A (tw_M x ad) H (ad j) := fun j hj => Or.inl (Or.inr ⟨j, hj, rfl⟩)
  have hnv := hW.nv
  have hnn := hW.nn
  refine lv_aload_n hx hb dX8_entryCount_0 rfl (lv_at hl 0 rfl) ?_
  refine lv_iload_n hx hb dX8_entryCount_1 rfl (lv_at hl 1 rfl) ?_
  refine mm_ri (va_runV (As := [.int a]) (rest := []) ⟨hx, hb, hml, hown, hts⟩ (t_checkNode l hT hR hW) (cwV 1 hts (lw_V q2961 q2963 qs121 q164 q2964) rfl rfl rfl (by decide +kernel) ⟨Nat.le_of_ble_eq_true rfl, Nat.le_of_ble_eq_true rfl⟩) (mm_pV hKK (mm_rc hKK hT.2.1 mm_le.rf rfl)) rfl rfl hl.1 rfl (lv_room (Nat.le_of_ble_eq_true rfl)) dX8_entryCount_2 ⟨Nat.le_of_ble_eq_true rfl, Nat.le_of_ble_eq_true rfl⟩) hS (mm_sS hS) (fun H_2 L_2 hT hz_2 hq_2 hS => ?_)
  refine mm_ifeqB (tgt := 16) hx hb dX8_entryCount_5 (by decide) (fun c_5 => ?_) (fun c_5 => ?_)
  · refine lv_iconst (v := nI 0) hx hb dX8_entryCount_16 (by decide) ?_
    exact mm_iret (v := nI 0) hx hb hr hlk hS (Nat.le_of_ble_eq_true rfl) (Nat.le_of_ble_eq_true rfl) (⟨by rw [qv_f c_5]; rfl, hT⟩) dX8_entryCount_17
  · obtain ⟨hina, hsta⟩ := isSt_in c_5
    obtain ⟨ja, hja, heja, hcja⟩ := inR_t hina
    rw [heja] at hl
    rw [hcja] at hsta
    refine lv_aload_n hx hb dX8_entryCount_8 rfl (lv_at hl 0 rfl) ?_
    refine lv_iload_n hx hb dX8_entryCount_9 rfl (lv_at hl 1 rfl) ?_
    refine mm_rpu (va_runV (As := [.int (nI ja)]) (rest := []) ⟨hx, hb, hml, hown, hts⟩ (t_countOf l hT hR hW (by first | assumption | omega)) (cwV 1 hts (lw_V q2745 q2747 qs89 q164 q2748) rfl rfl rfl (by decide +kernel) ⟨Nat.le_of_ble_eq_true rfl, Nat.le_of_ble_eq_true rfl⟩) (mm_pV hKK (mm_rc hKK hT.2.1 mm_le.rf rfl)) rfl rfl hl.1 rfl (lv_room (Nat.le_of_ble_eq_true rfl)) dX8_entryCount_10 ⟨Nat.le_of_ble_eq_true rfl, Nat.le_of_ble_eq_true rfl⟩) hS (mm_s0 hS) (fun L_10 hS => ?_)
    refine lv_goto (tgt := 17) hx hb dX8_entryCount_13 (by decide) ?_
    exact mm_iret (v := nI (s_cnt S ja)) hx hb hr hlk hS (Nat.le_of_ble_eq_true rfl) (Nat.le_of_ble_eq_true rfl) (⟨by rw [qv_t c_5, hcja], hT⟩) dX8_entryCount_17
set_option maxRecDepth 100000 in
theorem t_childCount (l : Launch) {G : mm_G} {P : mm_H} {H : Heap} {x : Nat} {ad : Nat → Nat} {I : Nat → Int32} {F : Nat → Nat → Int32} {S : sp_S} {a : Int32} (hT : TW G x ad I F H) (hR : TR (F 0) S) (hW : WF S) : Mt l yX8_childCount (ws_ yX8_childCount cX8_childCount 4 (some .int)) 6 400 0 0 G P [.ref x, .int a] H (tw_M x ad) (mm_i (qv (inR a (s_nv S)) (nI (cB (s_nv S) (fun v => decide (s_par S v = some a.toNatClampNeg))))) (fun H2 => TW G x ad (upd I 6 (ck (inR a (s_nv S)) true true)) F H2)) := by
  refine Mt.of (by decide) (Nat.le_of_ble_eq_true rfl) (fun p e s m below meth c ls hx hb hr hlk hml hown hnm hts hKK hsH hl hS => ?_)
  have hl : lv_has ls 4 [(0, .ref x), (1, .int a)] := hl
  have hR0 := hR
  have hMx : mm_A (tw_M x ad) H x := Or.inl (Or.inl rfl)
  have hMa : ∀ j, tw_isA j = true → mm_A (tw_M x ad) H (ad j) := fun j hj => Or.inl (Or.inr ⟨j, hj, rfl⟩)
  have hnv := hW.nv
  have hnn := hW.nn
  refine lv_aload_n hx hb dX8_childCount_0 rfl (lv_at hl 0 rfl) ?_
  refine lv_iload_n hx hb dX8_childCount_1 rfl (lv_at hl 1 rfl) ?_
  refine mm_ri (va_runV (As := [.int a]) (rest := []) ⟨hx, hb, hml, hown, hts⟩ (t_checkVersion l hT hR hW) (cwV 1 hts (lw_V q2837 q2839 qs109 q164 q2840) rfl rfl rfl (by decide +kernel) ⟨Nat.le_of_ble_eq_true rfl, Nat.le_of_ble_eq_true rfl⟩) (mm_pV hKK (mm_rc hKK hT.2.1 mm_le.rf rfl)) rfl rfl hl.1 rfl (lv_room (Nat.le_of_ble_eq_true rfl)) dX8_childCount_2 ⟨Nat.le_of_ble_eq_true rfl, Nat.le_of_ble_eq_true rfl⟩) hS (mm_sS hS) (fun H_2 L_2 hT hz_2 hq_2 hS => ?_)
  refine mm_ifneB (tgt := 10) hx hb dX8_childCount_5 (by decide) (fun c_5 => ?_) (fun c_5 => ?_)
  · have hina := c_5
    obtain ⟨ja, hja, heja, hcja⟩ := inR_t hina
    rw [heja] at hl
    refine lv_iconst (v := nI 0) hx hb dX8_childCount_10 (by decide) ?_
    refine lv_istore_n (lv' := [(2, .int (nI 0)), (0, .ref x), (1, .int (nI ja))]) hx hb dX8_childCount_11 rfl hl (by decide) rfl (fun ls hl => ?_)
    refine lv_iconst (v := nI 0) hx hb dX8_childCount_12 (by decide) ?_
    refine lv_istore_n (lv' := [(3, .int (nI 0)), (2, .int (nI 0)), (0, .ref x), (1, .int (nI ja))]) hx hb dX8_childCount_13 rfl hl (by decide) rfl (fun ls hl => ?_)
    have lp_14 : ∀ (fu : Nat) (i : Nat)  (L : List Loc) (ls : Array Slot), s_nv S - i < fu → (i ≤ s_nv S) → lv_has ls 4 [(2, .int (nI (cB i (fun v => decide (s_par S v = some ja))))), (3, .int (nI i)), (0, .ref x), (1, .int (nI ja))] → va_S (mm_A (tw_M x ad) H) H H_2 L → W p l e (mm_rm 6 400 0 0) s m ([.ref x, .int a] : List Value).toArray below meth c H_2 L 0 0 (MQ below (mm_Qc H (tw_M x ad) (mm_i (qv (inR a (s_nv S)) (nI (cB (s_nv S) (fun v => decide (s_par S v = some a.toNatClampNeg))))) (fun H2 => TW G x ad (upd I 6 (ck (inR a (s_nv S)) true true)) F H2))) ([.ref x, .int a] : List Value).toArray s 0 0 (mm_A (tw_M x ad) H)) (F0 m 14 ls []) := by
      intro fu; induction fu with
      | zero => intro i L ls hfu; exact absurd hfu (Nat.not_lt_zero _)
      | succ fu ih =>
        intro i L ls hfu hi hl  hS
        have ih_14 := ih
        refine lv_iload_n hx hb dX8_childCount_14 rfl (lv_at hl 1 rfl) ?_
        refine lv_aload_n hx hb dX8_childCount_15 rfl (lv_at hl 2 rfl) ?_
        refine tw_geta 0 hx hb hts hown hKK hT rfl rfl (hts _ q2498) dX8_childCount_16 ?_
        refine lv_iconst (v := nI 0) hx hb dX8_childCount_19 (by decide) ?_
        refine mm_iald (k := 0) hx hb hKK (hT.2.2 0 rfl) mm_le.rf (by show _ < 4210; omega) (by decide) dX8_childCount_20 ?_
        refine mm_top (y := nI (s_nv S)) (hR.nv) ?_
        refine mm_icmp_ge (tgt := 56) (by omega) (by omega) hx hb dX8_childCount_21 (by decide) (fun c_21 => ?_) (fun c_21 => ?_)
        · refine lv_iload_n hx hb dX8_childCount_56 rfl (lv_at hl 0 rfl) ?_
          exact mm_iret (v := nI (cB i (fun v => decide (s_par S v = some ja)))) hx hb hr hlk hS (Nat.le_of_ble_eq_true rfl) (Nat.le_of_ble_eq_true rfl) (⟨by rw [qv_t c_5, hcja, show s_nv S = i by omega], hT⟩) dX8_childCount_57
        · refine lv_iload_n hx hb dX8_childCount_24 rfl (lv_at hl 0 rfl) ?_
          refine lv_aload_n hx hb dX8_childCount_25 rfl (lv_at hl 2 rfl) ?_
          refine tw_geta 0 hx hb hts hown hKK hT rfl rfl (hts _ q2498) dX8_childCount_26 ?_
          refine lv_iload_n hx hb dX8_childCount_29 rfl (lv_at hl 1 rfl) ?_
          refine mm_rpu (va_runS (As := [.int (nI i)]) (rest := [.ref (ad 0), .int (nI (cB i (fun v => decide (s_par S v = some ja))))]) ⟨hx, hb, hml, hown, hts⟩ (t_v l ) (va_cwS 1 hts (lw_S q2478 q2479 q164 q2480) rfl rfl rfl (by decide +kernel) ⟨Nat.le_of_ble_eq_true rfl, Nat.le_of_ble_eq_true rfl⟩) (mm_pS hKK) rfl rfl hl.1 rfl (lv_room (Nat.le_of_ble_eq_true rfl)) dX8_childCount_30 ⟨Nat.le_of_ble_eq_true rfl, Nat.le_of_ble_eq_true rfl⟩) hS (mm_s0 hS) (fun L_30 hS => ?_)
          refine lv_iconst (v := nI 3) hx hb dX8_childCount_33 (by decide) ?_
          refine mm_iadd hx hb dX8_childCount_34 ?_
          refine mm_iald (k := (10 + 6 * i + 3)) hx hb hKK (hT.2.2 0 rfl) mm_le.rf (by show _ < 4210; omega) (by decide) dX8_childCount_35 ?_
          refine mm_top (y := oI (s_par S i)) (hR.par (by omega)) ?_
          refine lv_iload_n hx hb dX8_childCount_36 rfl (lv_at hl 3 rfl) ?_
          refine mm_icmp_neP (tgt := 44) (fun r hr => by have := hW.par (show i < s_nv S by omega) hr; omega) (by omega) hx hb dX8_childCount_37 (by decide) (fun c_37 => ?_) (fun c_37 => ?_)
          · refine lv_iconst (v := nI 0) hx hb dX8_childCount_44 (by decide) ?_
            refine mm_top (y := mm_b false) rfl ?_
            refine mm_rpu (va_runS (As := [.int (mm_b false)]) (rest := [.int (nI (cB i (fun v => decide (s_par S v = some ja))))]) ⟨hx, hb, hml, hown, hts⟩ (t_one l ) (va_cwS 1 hts (lw_S q2467 q2468 q164 q2469) rfl rfl rfl (by decide +kernel) ⟨Nat.le_of_ble_eq_true rfl, Nat.le_of_ble_eq_true rfl⟩) (mm_pS hKK) rfl rfl hl.1 rfl (lv_room (Nat.le_of_ble_eq_true rfl)) dX8_childCount_45 ⟨Nat.le_of_ble_eq_true rfl, Nat.le_of_ble_eq_true rfl⟩) hS (mm_s0 hS) (fun L_45 hS => ?_)
            refine lv_iadd hx hb dX8_childCount_48 ?_
            refine mm_top (mm_iB _ _) ?_
            refine mm_top (y := nI (cB (i + 1) (fun v => decide (s_par S v = some ja)))) (congrArg nI (by rw [cB_succ]; simp [c_37])) ?_
            refine lv_istore_n (lv' := [(2, .int (nI (cB (i + 1) (fun v => decide (s_par S v = some ja))))), (3, .int (nI i)), (0, .ref x), (1, .int (nI ja))]) hx hb dX8_childCount_49 rfl hl (by decide) rfl (fun ls hl => ?_)
            refine lv_iinc (v := nI (i + 1)) (lv' := [(3, .int (nI (i + 1))), (2, .int (nI (cB (i + 1) (fun v => decide (s_par S v = some ja))))), (0, .ref x), (1, .int (nI ja))]) hx hb dX8_childCount_50 hl (k := 1) rfl (nI_add _ _) (by decide) rfl (fun ls hl => ?_)
            refine lv_goto (tgt := 14) hx hb dX8_childCount_53 (by decide) ?_
            exact ih_14 (i + 1) _ _ (by omega) (by omega) (lv_sub hl [1, 0, 2, 3] rfl)  hS
          · refine lv_iconst (v := nI 1) hx hb dX8_childCount_40 (by decide) ?_
            refine mm_top (y := mm_b true) rfl ?_
            refine lv_goto (tgt := 45) hx hb dX8_childCount_41 (by decide) ?_
            refine mm_rpu (va_runS (As := [.int (mm_b true)]) (rest := [.int (nI (cB i (fun v => decide (s_par S v = some ja))))]) ⟨hx, hb, hml, hown, hts⟩ (t_one l ) (va_cwS 1 hts (lw_S q2467 q2468 q164 q2469) rfl rfl rfl (by decide +kernel) ⟨Nat.le_of_ble_eq_true rfl, Nat.le_of_ble_eq_true rfl⟩) (mm_pS hKK) rfl rfl hl.1 rfl (lv_room (Nat.le_of_ble_eq_true rfl)) dX8_childCount_45 ⟨Nat.le_of_ble_eq_true rfl, Nat.le_of_ble_eq_true rfl⟩) hS (mm_s0 hS) (fun L_45 hS => ?_)
            refine lv_iadd hx hb dX8_childCount_48 ?_
            refine mm_top (mm_iB _ _) ?_
            refine mm_top (y := nI (cB (i + 1) (fun v => decide (s_par S v = some ja)))) (congrArg nI (by rw [cB_succ]; simp [c_37])) ?_
            refine lv_istore_n (lv' := [(2, .int (nI (cB (i + 1) (fun v => decide (s_par S v = some ja))))), (3, .int (nI i)), (0, .ref x), (1, .int (nI ja))]) hx hb dX8_childCount_49 rfl hl (by decide) rfl (fun ls hl => ?_)
            refine lv_iinc (v := nI (i + 1)) (lv' := [(3, .int (nI (i + 1))), (2, .int (nI (cB (i + 1) (fun v => decide (s_par S v = some ja))))), (0, .ref x), (1, .int (nI ja))]) hx hb dX8_childCount_50 hl (k := 1) rfl (nI_add _ _) (by decide) rfl (fun ls hl => ?_)
            refine lv_goto (tgt := 14) hx hb dX8_childCount_53 (by decide) ?_
            exact ih_14 (i + 1) _ _ (by omega) (by omega) (lv_sub hl [1, 0, 2, 3] rfl)  hS
    exact lp_14 _ 0 _ _ (Nat.lt_succ_self _) (by omega) (lv_sub hl [1, 0, 2, 3] rfl)  hS
  · refine lv_iconst (v := nI 0) hx hb dX8_childCount_8 (by decide) ?_
    exact mm_iret (v := nI 0) hx hb hr hlk hS (Nat.le_of_ble_eq_true rfl) (Nat.le_of_ble_eq_true rfl) (⟨by rw [qv_f c_5]; rfl, hT⟩) dX8_childCount_9
set_option maxRecDepth 100000 in
theorem t_isReleased (l : Launch) {G : mm_G} {P : mm_H} {H : Heap} {x : Nat} {ad : Nat → Nat} {I : Nat → Int32} {F : Nat → Nat → Int32} {S : sp_S} {a : Int32} (hT : TW G x ad I F H) (hR : TR (F 0) S) (hW : WF S) : Mt l yX8_isReleased (ws_ yX8_isReleased cX8_isReleased 2 (some .boolean)) 6 400 0 0 G P [.ref x, .int a] H (tw_M x ad) (mm_i (mm_b (inR a (s_nv S) && s_rel S a.toNatClampNeg)) (fun H2 => TW G x ad (upd I 6 (ck (inR a (s_nv S)) true true)) F H2)) := by
  refine Mt.of (by decide) (Nat.le_of_ble_eq_true rfl) (fun p e s m below meth c ls hx hb hr hlk hml hown hnm hts hKK hsH hl hS => ?_)
  have hl : lv_has ls 2 [(0, .ref x), (1, .int a)] := hl
  have hR0 := hR
  have hMx : mm_A (tw_M x ad) H x := Or.inl (Or.inl rfl)
  have hMa : ∀ j, tw_isA j = true → mm_A (tw_M x ad) H (ad j) := fun j hj => Or.inl (Or.inr ⟨j, hj, rfl⟩)
  have hnv := hW.nv
  have hnn := hW.nn
  refine lv_aload_n hx hb dX8_isReleased_0 rfl (lv_at hl 0 rfl) ?_
  refine lv_iload_n hx hb dX8_isReleased_1 rfl (lv_at hl 1 rfl) ?_
  refine mm_ri (va_runV (As := [.int a]) (rest := []) ⟨hx, hb, hml, hown, hts⟩ (t_checkVersion l hT hR hW) (cwV 1 hts (lw_V q2837 q2839 qs109 q164 q2840) rfl rfl rfl (by decide +kernel) ⟨Nat.le_of_ble_eq_true rfl, Nat.le_of_ble_eq_true rfl⟩) (mm_pV hKK (mm_rc hKK hT.2.1 mm_le.rf rfl)) rfl rfl hl.1 rfl (lv_room (Nat.le_of_ble_eq_true rfl)) dX8_isReleased_2 ⟨Nat.le_of_ble_eq_true rfl, Nat.le_of_ble_eq_true rfl⟩) hS (mm_sS hS) (fun H_2 L_2 hT hz_2 hq_2 hS => ?_)
  refine mm_ifeqB (tgt := 20) hx hb dX8_isReleased_5 (by decide) (fun c_5 => ?_) (fun c_5 => ?_)
  · refine lv_iconst (v := nI 0) hx hb dX8_isReleased_20 (by decide) ?_
    exact mm_zret (v := nI 0) hx hb hr hlk hS (Nat.le_of_ble_eq_true rfl) (Nat.le_of_ble_eq_true rfl) (rfl) (⟨mm_e0 (by rw [c_5]; rfl), hT⟩) dX8_isReleased_21
  · have hina := c_5
    obtain ⟨ja, hja, heja, hcja⟩ := inR_t hina
    rw [heja] at hl
    refine lv_aload_n hx hb dX8_isReleased_8 rfl (lv_at hl 0 rfl) ?_
    refine lv_iload_n hx hb dX8_isReleased_9 rfl (lv_at hl 1 rfl) ?_
    refine mm_rpu (va_runV (As := [.int (nI ja)]) (rest := []) ⟨hx, hb, hml, hown, hts⟩ (t_isGone l hT hR hW (by first | assumption | omega)) (cwV 1 hts (lw_V q2717 q2719 qs82 q164 q2720) rfl rfl rfl (by decide +kernel) ⟨Nat.le_of_ble_eq_true rfl, Nat.le_of_ble_eq_true rfl⟩) (mm_pV hKK (mm_rc hKK hT.2.1 mm_le.rf rfl)) rfl rfl hl.1 rfl (lv_room (Nat.le_of_ble_eq_true rfl)) dX8_isReleased_10 ⟨Nat.le_of_ble_eq_true rfl, Nat.le_of_ble_eq_true rfl⟩) hS (mm_s0 hS) (fun L_10 hS => ?_)
    refine mm_ifeqB (tgt := 20) hx hb dX8_isReleased_13 (by decide) (fun c_13 => ?_) (fun c_13 => ?_)
    · refine lv_iconst (v := nI 0) hx hb dX8_isReleased_20 (by decide) ?_
      exact mm_zret (v := nI 0) hx hb hr hlk hS (Nat.le_of_ble_eq_true rfl) (Nat.le_of_ble_eq_true rfl) (rfl) (⟨by first | exact mm_e1 (by rw [hina, hcja, c_13]; rfl) | exact mm_e0 (by rw [hcja, c_13, Bool.and_false]), hT⟩) dX8_isReleased_21
    · refine lv_iconst (v := nI 1) hx hb dX8_isReleased_16 (by decide) ?_
      refine lv_goto (tgt := 21) hx hb dX8_isReleased_17 (by decide) ?_
      exact mm_zret (v := nI 1) hx hb hr hlk hS (Nat.le_of_ble_eq_true rfl) (Nat.le_of_ble_eq_true rfl) (rfl) (⟨by first | exact mm_e1 (by rw [hina, hcja, c_13]; rfl) | exact mm_e0 (by rw [hcja, c_13, Bool.and_false]), hT⟩) dX8_isReleased_21
set_option maxRecDepth 100000 in
theorem t_isLeaf (l : Launch) {G : mm_G} {P : mm_H} {H : Heap} {x : Nat} {ad : Nat → Nat} {I : Nat → Int32} {F : Nat → Nat → Int32} {S : sp_S} {a : Int32} (hT : TW G x ad I F H) (hR : TR (F 0) S) (hW : WF S) : Mt l yX8_isLeaf (ws_ yX8_isLeaf cX8_isLeaf 2 (some .boolean)) 6 400 0 0 G P [.ref x, .int a] H (tw_M x ad) (mm_i (mm_b (isSt S a && s_leaf S a.toNatClampNeg)) (fun H2 => TW G x ad (upd I 6 (ck (isSt S a) true true)) F H2)) := by
  refine Mt.of (by decide) (Nat.le_of_ble_eq_true rfl) (fun p e s m below meth c ls hx hb hr hlk hml hown hnm hts hKK hsH hl hS => ?_)
  have hl : lv_has ls 2 [(0, .ref x), (1, .int a)] := hl
  have hR0 := hR
  have hMx : mm_A (tw_M x ad) H x := Or.inl (Or.inl rfl)
  have hMa : ∀ j, tw_isA j = true → mm_A (tw_M x ad) H (ad j) := fun j hj => Or.inl (Or.inr ⟨j, hj, rfl⟩)
  have hnv := hW.nv
  have hnn := hW.nn
  refine lv_aload_n hx hb dX8_isLeaf_0 rfl (lv_at hl 0 rfl) ?_
  refine lv_iload_n hx hb dX8_isLeaf_1 rfl (lv_at hl 1 rfl) ?_
  refine mm_ri (va_runV (As := [.int a]) (rest := []) ⟨hx, hb, hml, hown, hts⟩ (t_checkNode l hT hR hW) (cwV 1 hts (lw_V q2961 q2963 qs121 q164 q2964) rfl rfl rfl (by decide +kernel) ⟨Nat.le_of_ble_eq_true rfl, Nat.le_of_ble_eq_true rfl⟩) (mm_pV hKK (mm_rc hKK hT.2.1 mm_le.rf rfl)) rfl rfl hl.1 rfl (lv_room (Nat.le_of_ble_eq_true rfl)) dX8_isLeaf_2 ⟨Nat.le_of_ble_eq_true rfl, Nat.le_of_ble_eq_true rfl⟩) hS (mm_sS hS) (fun H_2 L_2 hT hz_2 hq_2 hS => ?_)
  refine mm_ifeqB (tgt := 20) hx hb dX8_isLeaf_5 (by decide) (fun c_5 => ?_) (fun c_5 => ?_)
  · refine lv_iconst (v := nI 0) hx hb dX8_isLeaf_20 (by decide) ?_
    exact mm_zret (v := nI 0) hx hb hr hlk hS (Nat.le_of_ble_eq_true rfl) (Nat.le_of_ble_eq_true rfl) (rfl) (⟨mm_e0 (by rw [c_5]; rfl), hT⟩) dX8_isLeaf_21
  · obtain ⟨hina, hsta⟩ := isSt_in c_5
    obtain ⟨ja, hja, heja, hcja⟩ := inR_t hina
    rw [heja] at hl
    rw [hcja] at hsta
    refine lv_aload_n hx hb dX8_isLeaf_8 rfl (lv_at hl 0 rfl) ?_
    refine lv_iload_n hx hb dX8_isLeaf_9 rfl (lv_at hl 1 rfl) ?_
    refine mm_rpu (va_runV (As := [.int (nI ja)]) (rest := []) ⟨hx, hb, hml, hown, hts⟩ (t_isLeafNode l hT hR hW (by first | assumption | omega)) (cwV 1 hts (lw_V q2793 q2795 qs101 q164 q2796) rfl rfl rfl (by decide +kernel) ⟨Nat.le_of_ble_eq_true rfl, Nat.le_of_ble_eq_true rfl⟩) (mm_pV hKK (mm_rc hKK hT.2.1 mm_le.rf rfl)) rfl rfl hl.1 rfl (lv_room (Nat.le_of_ble_eq_true rfl)) dX8_isLeaf_10 ⟨Nat.le_of_ble_eq_true rfl, Nat.le_of_ble_eq_true rfl⟩) hS (mm_s0 hS) (fun L_10 hS => ?_)
    refine mm_ifeqB (tgt := 20) hx hb dX8_isLeaf_13 (by decide) (fun c_13 => ?_) (fun c_13 => ?_)
    · refine lv_iconst (v := nI 0) hx hb dX8_isLeaf_20 (by decide) ?_
      exact mm_zret (v := nI 0) hx hb hr hlk hS (Nat.le_of_ble_eq_true rfl) (Nat.le_of_ble_eq_true rfl) (rfl) (⟨by first | exact mm_e1 (by rw [c_5, hcja, c_13]; rfl) | exact mm_e0 (by rw [hcja, c_13, Bool.and_false]), hT⟩) dX8_isLeaf_21
    · refine lv_iconst (v := nI 1) hx hb dX8_isLeaf_16 (by decide) ?_
      refine lv_goto (tgt := 21) hx hb dX8_isLeaf_17 (by decide) ?_
      exact mm_zret (v := nI 1) hx hb hr hlk hS (Nat.le_of_ble_eq_true rfl) (Nat.le_of_ble_eq_true rfl) (rfl) (⟨by first | exact mm_e1 (by rw [c_5, hcja, c_13]; rfl) | exact mm_e0 (by rw [hcja, c_13, Bool.and_false]), hT⟩) dX8_isLeaf_21
set_option maxRecDepth 100000 in
theorem t_sum (l : Launch) {G : mm_G} {P : mm_H} {H : Heap} {x : Nat} {ad : Nat → Nat} {I : Nat → Int32} {F : Nat → Nat → Int32} {S : sp_S} {a : Int32} (hT : TW G x ad I F H) (hR : TR (F 0) S) (hW : WF S) : Mt l yX8_sum (ws_ yX8_sum cX8_sum 4 (some .int)) 6 400 0 0 G P [.ref x, .int a] H (tw_M x ad) (mm_i (qv (isLv S a) (sI (s_len S a.toNatClampNeg) (s_els S a.toNatClampNeg))) (fun H2 => TW G x ad (upd I 6 (ck (inR a (s_nv S)) (isLv S a) true)) F H2)) := by
  refine Mt.of (by decide) (Nat.le_of_ble_eq_true rfl) (fun p e s m below meth c ls hx hb hr hlk hml hown hnm hts hKK hsH hl hS => ?_)
  have hl : lv_has ls 4 [(0, .ref x), (1, .int a)] := hl
  have hR0 := hR
  have hMx : mm_A (tw_M x ad) H x := Or.inl (Or.inl rfl)
  have hMa : ∀ j, tw_isA j = true → mm_A (tw_M x ad) H (ad j) := fun j hj => Or.inl (Or.inr ⟨j, hj, rfl⟩)
  have hnv := hW.nv
  have hnn := hW.nn
  refine lv_aload_n hx hb dX8_sum_0 rfl (lv_at hl 0 rfl) ?_
  refine lv_iload_n hx hb dX8_sum_1 rfl (lv_at hl 1 rfl) ?_
  refine mm_ri (va_runV (As := [.int a]) (rest := []) ⟨hx, hb, hml, hown, hts⟩ (t_checkLive l hT hR hW) (cwV 1 hts (lw_V q2869 q2871 qs112 q164 q2872) rfl rfl rfl (by decide +kernel) ⟨Nat.le_of_ble_eq_true rfl, Nat.le_of_ble_eq_true rfl⟩) (mm_pV hKK (mm_rc hKK hT.2.1 mm_le.rf rfl)) rfl rfl hl.1 rfl (lv_room (Nat.le_of_ble_eq_true rfl)) dX8_sum_2 ⟨Nat.le_of_ble_eq_true rfl, Nat.le_of_ble_eq_true rfl⟩) hS (mm_sS hS) (fun H_2 L_2 hT hz_2 hq_2 hS => ?_)
  refine mm_ifneB (tgt := 10) hx hb dX8_sum_5 (by decide) (fun c_5 => ?_) (fun c_5 => ?_)
  · obtain ⟨hina, hrla⟩ := isLv_in c_5
    obtain ⟨ja, hja, heja, hcja⟩ := inR_t hina
    rw [heja] at hl
    rw [hcja] at hrla
    refine lv_iconst (v := nI 0) hx hb dX8_sum_10 (by decide) ?_
    refine lv_istore_n (lv' := [(2, .int (nI 0)), (0, .ref x), (1, .int (nI ja))]) hx hb dX8_sum_11 rfl hl (by decide) rfl (fun ls hl => ?_)
    refine lv_iconst (v := nI 0) hx hb dX8_sum_12 (by decide) ?_
    refine lv_istore_n (lv' := [(3, .int (nI 0)), (2, .int (nI 0)), (0, .ref x), (1, .int (nI ja))]) hx hb dX8_sum_13 rfl hl (by decide) rfl (fun ls hl => ?_)
    have hlenj := hW.len hja
    have lp_14 : ∀ (fu : Nat) (i : Nat)  (L : List Loc) (ls : Array Slot), s_len S ja - i < fu → (i ≤ s_len S ja) → lv_has ls 4 [(2, .int (sI i (s_els S ja))), (3, .int (nI i)), (0, .ref x), (1, .int (nI ja))] → va_S (mm_A (tw_M x ad) H) H H_2 L → W p l e (mm_rm 6 400 0 0) s m ([.ref x, .int a] : List Value).toArray below meth c H_2 L 0 0 (MQ below (mm_Qc H (tw_M x ad) (mm_i (qv (isLv S a) (sI (s_len S a.toNatClampNeg) (s_els S a.toNatClampNeg))) (fun H2 => TW G x ad (upd I 6 (ck (inR a (s_nv S)) (isLv S a) true)) F H2))) ([.ref x, .int a] : List Value).toArray s 0 0 (mm_A (tw_M x ad) H)) (F0 m 14 ls []) := by
      intro fu; induction fu with
      | zero => intro i L ls hfu; exact absurd hfu (Nat.not_lt_zero _)
      | succ fu ih =>
        intro i L ls hfu hi hl  hS
        have ih_14 := ih
        refine lv_iload_n hx hb dX8_sum_14 rfl (lv_at hl 1 rfl) ?_
        refine lv_aload_n hx hb dX8_sum_15 rfl (lv_at hl 2 rfl) ?_
        refine lv_iload_n hx hb dX8_sum_16 rfl (lv_at hl 3 rfl) ?_
        refine mm_rpu (va_runV (As := [.int (nI ja)]) (rest := [.int (nI i)]) ⟨hx, hb, hml, hown, hts⟩ (t_lengthOf l hT hR hW (by first | assumption | omega)) (cwV 1 hts (lw_V q2487 q2489 qs60 q164 q2490) rfl rfl rfl (by decide +kernel) ⟨Nat.le_of_ble_eq_true rfl, Nat.le_of_ble_eq_true rfl⟩) (mm_pV hKK (mm_rc hKK hT.2.1 mm_le.rf rfl)) rfl rfl hl.1 rfl (lv_room (Nat.le_of_ble_eq_true rfl)) dX8_sum_17 ⟨Nat.le_of_ble_eq_true rfl, Nat.le_of_ble_eq_true rfl⟩) hS (mm_s0 hS) (fun L_17 hS => ?_)
        refine mm_icmp_ge (tgt := 38) (by omega) (by omega) hx hb dX8_sum_20 (by decide) (fun c_20 => ?_) (fun c_20 => ?_)
        · refine lv_iload_n hx hb dX8_sum_38 rfl (lv_at hl 0 rfl) ?_
          exact mm_iret (v := sI i (s_els S ja)) hx hb hr hlk hS (Nat.le_of_ble_eq_true rfl) (Nat.le_of_ble_eq_true rfl) (⟨by rw [qv_t c_5, hcja, show s_len S ja = i by omega], hT⟩) dX8_sum_39
        · refine lv_iload_n hx hb dX8_sum_23 rfl (lv_at hl 0 rfl) ?_
          refine lv_aload_n hx hb dX8_sum_24 rfl (lv_at hl 2 rfl) ?_
          refine lv_iload_n hx hb dX8_sum_25 rfl (lv_at hl 3 rfl) ?_
          refine lv_iload_n hx hb dX8_sum_26 rfl (lv_at hl 1 rfl) ?_
          refine mm_rpu (va_runV (As := [.int (nI ja), .int (nI i)]) (rest := [.int (sI i (s_els S ja))]) ⟨hx, hb, hml, hown, hts⟩ (t_element l hT hR hW (by first | assumption | omega) (by first | assumption | omega)) (cwV 2 hts (lw_V q2494 q2496 qs61 q164 q2497) rfl rfl rfl (by decide +kernel) ⟨Nat.le_of_ble_eq_true rfl, Nat.le_of_ble_eq_true rfl⟩) (mm_pV hKK (mm_rc hKK hT.2.1 mm_le.rf rfl)) rfl rfl hl.1 rfl (lv_room (Nat.le_of_ble_eq_true rfl)) dX8_sum_27 ⟨Nat.le_of_ble_eq_true rfl, Nat.le_of_ble_eq_true rfl⟩) hS (mm_s0 hS) (fun L_27 hS => ?_)
          refine lv_iadd hx hb dX8_sum_30 ?_
          refine mm_top (y := sI (i + 1) (s_els S ja)) rfl ?_
          refine lv_istore_n (lv' := [(2, .int (sI (i + 1) (s_els S ja))), (3, .int (nI i)), (0, .ref x), (1, .int (nI ja))]) hx hb dX8_sum_31 rfl hl (by decide) rfl (fun ls hl => ?_)
          refine lv_iinc (v := nI (i + 1)) (lv' := [(3, .int (nI (i + 1))), (2, .int (sI (i + 1) (s_els S ja))), (0, .ref x), (1, .int (nI ja))]) hx hb dX8_sum_32 hl (k := 1) rfl (nI_add _ _) (by decide) rfl (fun ls hl => ?_)
          refine lv_goto (tgt := 14) hx hb dX8_sum_35 (by decide) ?_
          exact ih_14 (i + 1) _ _ (by omega) (by omega) (lv_sub hl [1, 0, 2, 3] rfl)  hS
    exact lp_14 _ 0 _ _ (Nat.lt_succ_self _) (by omega) (lv_sub hl [1, 0, 2, 3] rfl)  hS
  · refine lv_iconst (v := nI 0) hx hb dX8_sum_8 (by decide) ?_
    exact mm_iret (v := nI 0) hx hb hr hlk hS (Nat.le_of_ble_eq_true rfl) (Nat.le_of_ble_eq_true rfl) (⟨by rw [qv_f c_5]; rfl, hT⟩) dX8_sum_9
set_option maxRecDepth 100000 in
theorem t_indexOf (l : Launch) {G : mm_G} {P : mm_H} {H : Heap} {x : Nat} {ad : Nat → Nat} {I : Nat → Int32} {F : Nat → Nat → Int32} {S : sp_S} {a b : Int32} (hT : TW G x ad I F H) (hR : TR (F 0) S) (hW : WF S) : Mt l yX8_indexOf (ws_ yX8_indexOf cX8_indexOf 4 (some .int)) 6 400 0 0 G P [.ref x, .int a, .int b] H (tw_M x ad) (mm_i (qv (isLv S a) (oI (fI (s_len S a.toNatClampNeg) (fun i => decide (s_els S a.toNatClampNeg i = b))))) (fun H2 => TW G x ad (upd I 6 (ck (inR a (s_nv S)) (isLv S a) true)) F H2)) := by
  refine Mt.of (by decide) (Nat.le_of_ble_eq_true rfl) (fun p e s m below meth c ls hx hb hr hlk hml hown hnm hts hKK hsH hl hS => ?_)
  have hl : lv_has ls 4 [(0, .ref x), (1, .int a), (2, .int b)] := hl
  have hR0 := hR
  have hMx : mm_A (tw_M x ad) H x := Or.inl (Or.inl rfl)
  have hMa : ∀ j, tw_isA j = true → mm_A (tw_M x ad) H (ad j) := fun j hj => Or.inl (Or.inr ⟨j, hj, rfl⟩)
  have hnv := hW.nv
  have hnn := hW.nn
  refine lv_aload_n hx hb dX8_indexOf_0 rfl (lv_at hl 0 rfl) ?_
  refine lv_iload_n hx hb dX8_indexOf_1 rfl (lv_at hl 1 rfl) ?_
  refine mm_ri (va_runV (As := [.int a]) (rest := []) ⟨hx, hb, hml, hown, hts⟩ (t_checkLive l hT hR hW) (cwV 1 hts (lw_V q2869 q2871 qs112 q164 q2872) rfl rfl rfl (by decide +kernel) ⟨Nat.le_of_ble_eq_true rfl, Nat.le_of_ble_eq_true rfl⟩) (mm_pV hKK (mm_rc hKK hT.2.1 mm_le.rf rfl)) rfl rfl hl.1 rfl (lv_room (Nat.le_of_ble_eq_true rfl)) dX8_indexOf_2 ⟨Nat.le_of_ble_eq_true rfl, Nat.le_of_ble_eq_true rfl⟩) hS (mm_sS hS) (fun H_2 L_2 hT hz_2 hq_2 hS => ?_)
  refine mm_ifneB (tgt := 10) hx hb dX8_indexOf_5 (by decide) (fun c_5 => ?_) (fun c_5 => ?_)
  · obtain ⟨hina, hrla⟩ := isLv_in c_5
    obtain ⟨ja, hja, heja, hcja⟩ := inR_t hina
    rw [heja] at hl
    rw [hcja] at hrla
    refine lv_iconst (v := nI 0) hx hb dX8_indexOf_10 (by decide) ?_
    refine lv_istore_n (lv' := [(3, .int (nI 0)), (0, .ref x), (1, .int (nI ja)), (2, .int b)]) hx hb dX8_indexOf_11 rfl hl (by decide) rfl (fun ls hl => ?_)
    have hlenj := hW.len hja
    have lp_12 : ∀ (fu : Nat) (i : Nat)  (L : List Loc) (ls : Array Slot), s_len S ja - i < fu → (i ≤ s_len S ja) → (∀ j, j < i → decide (s_els S ja j = b) = false) → lv_has ls 4 [(3, .int (nI i)), (0, .ref x), (1, .int (nI ja)), (2, .int b)] → va_S (mm_A (tw_M x ad) H) H H_2 L → W p l e (mm_rm 6 400 0 0) s m ([.ref x, .int a, .int b] : List Value).toArray below meth c H_2 L 0 0 (MQ below (mm_Qc H (tw_M x ad) (mm_i (qv (isLv S a) (oI (fI (s_len S a.toNatClampNeg) (fun i => decide (s_els S a.toNatClampNeg i = b))))) (fun H2 => TW G x ad (upd I 6 (ck (inR a (s_nv S)) (isLv S a) true)) F H2))) ([.ref x, .int a, .int b] : List Value).toArray s 0 0 (mm_A (tw_M x ad) H)) (F0 m 12 ls []) := by
      intro fu; induction fu with
      | zero => intro i L ls hfu; exact absurd hfu (Nat.not_lt_zero _)
      | succ fu ih =>
        intro i L ls hfu hi hne hl  hS
        have ih_12 := ih
        refine lv_iload_n hx hb dX8_indexOf_12 rfl (lv_at hl 0 rfl) ?_
        refine lv_aload_n hx hb dX8_indexOf_13 rfl (lv_at hl 1 rfl) ?_
        refine lv_iload_n hx hb dX8_indexOf_14 rfl (lv_at hl 2 rfl) ?_
        refine mm_rpu (va_runV (As := [.int (nI ja)]) (rest := [.int (nI i)]) ⟨hx, hb, hml, hown, hts⟩ (t_lengthOf l hT hR hW (by first | assumption | omega)) (cwV 1 hts (lw_V q2487 q2489 qs60 q164 q2490) rfl rfl rfl (by decide +kernel) ⟨Nat.le_of_ble_eq_true rfl, Nat.le_of_ble_eq_true rfl⟩) (mm_pV hKK (mm_rc hKK hT.2.1 mm_le.rf rfl)) rfl rfl hl.1 rfl (lv_room (Nat.le_of_ble_eq_true rfl)) dX8_indexOf_15 ⟨Nat.le_of_ble_eq_true rfl, Nat.le_of_ble_eq_true rfl⟩) hS (mm_s0 hS) (fun L_15 hS => ?_)
        refine mm_icmp_ge (tgt := 39) (by omega) (by omega) hx hb dX8_indexOf_18 (by decide) (fun c_18 => ?_) (fun c_18 => ?_)
        · refine lv_iconst (v := (-1)) hx hb dX8_indexOf_39 (by decide) ?_
          exact mm_iret (v := (-1)) hx hb hr hlk hS (Nat.le_of_ble_eq_true rfl) (Nat.le_of_ble_eq_true rfl) (⟨by rw [qv_t c_5, hcja, fI_none (fun j hj => hne j (by omega))]; rfl, hT⟩) dX8_indexOf_40
        · refine lv_aload_n hx hb dX8_indexOf_21 rfl (lv_at hl 1 rfl) ?_
          refine lv_iload_n hx hb dX8_indexOf_22 rfl (lv_at hl 2 rfl) ?_
          refine lv_iload_n hx hb dX8_indexOf_23 rfl (lv_at hl 0 rfl) ?_
          refine mm_rpu (va_runV (As := [.int (nI ja), .int (nI i)]) (rest := []) ⟨hx, hb, hml, hown, hts⟩ (t_element l hT hR hW (by first | assumption | omega) (by first | assumption | omega)) (cwV 2 hts (lw_V q2494 q2496 qs61 q164 q2497) rfl rfl rfl (by decide +kernel) ⟨Nat.le_of_ble_eq_true rfl, Nat.le_of_ble_eq_true rfl⟩) (mm_pV hKK (mm_rc hKK hT.2.1 mm_le.rf rfl)) rfl rfl hl.1 rfl (lv_room (Nat.le_of_ble_eq_true rfl)) dX8_indexOf_24 ⟨Nat.le_of_ble_eq_true rfl, Nat.le_of_ble_eq_true rfl⟩) hS (mm_s0 hS) (fun L_24 hS => ?_)
          refine lv_iload_n hx hb dX8_indexOf_27 rfl (lv_at hl 3 rfl) ?_
          refine lv_icmp_ne (tgt := 33) hx hb dX8_indexOf_28 (by decide) (fun c_28 => ?_) (fun c_28 => ?_)
          · refine lv_iinc (v := nI (i + 1)) (lv' := [(3, .int (nI (i + 1))), (0, .ref x), (1, .int (nI ja)), (2, .int b)]) hx hb dX8_indexOf_33 hl (k := 0) rfl (nI_add _ _) (by decide) rfl (fun ls hl => ?_)
            refine lv_goto (tgt := 12) hx hb dX8_indexOf_36 (by decide) ?_
            exact ih_12 (i + 1) _ _ (by omega) (by omega) (fun j hj => by rcases Nat.lt_or_ge j i with z | z; exact hne j z; rw [show j = i by omega]; exact decide_eq_false c_28) (lv_sub hl [0, 1, 2, 3] rfl)  hS
          · refine lv_iload_n hx hb dX8_indexOf_31 rfl (lv_at hl 0 rfl) ?_
            exact mm_iret (v := nI i) hx hb hr hlk hS (Nat.le_of_ble_eq_true rfl) (Nat.le_of_ble_eq_true rfl) (⟨by rw [qv_t c_5, hcja, fI_some (i := i) (by omega) (decide_eq_true c_28) hne]; rfl, hT⟩) dX8_indexOf_32
    exact lp_12 _ 0 _ _ (Nat.lt_succ_self _) (by omega) (fun j hj => absurd hj (Nat.not_lt_zero _)) (lv_sub hl [0, 1, 2, 3] rfl)  hS
  · refine lv_iconst (v := nI 0) hx hb dX8_indexOf_8 (by decide) ?_
    exact mm_iret (v := nI 0) hx hb hr hlk hS (Nat.le_of_ble_eq_true rfl) (Nat.le_of_ble_eq_true rfl) (⟨by rw [qv_f c_5]; rfl, hT⟩) dX8_indexOf_9
set_option maxRecDepth 100000 in
theorem t_differences (l : Launch) {G : mm_G} {P : mm_H} {H : Heap} {x : Nat} {ad : Nat → Nat} {I : Nat → Int32} {F : Nat → Nat → Int32} {S : sp_S} {a b : Int32} (hT : TW G x ad I F H) (hR : TR (F 0) S) (hW : WF S) : Mt l yX8_differences (ws_ yX8_differences cX8_differences 5 (some .int)) 6 400 0 0 G P [.ref x, .int a, .int b] H (tw_M x ad) (mm_i (qv (is2 S a b) (nI (cB 64 (dfA S a.toNatClampNeg b.toNatClampNeg)))) (fun H2 => TW G x ad (upd I 6 (ck (inR a (s_nv S) && inR b (s_nv S)) (is2 S a b) true)) F H2)) := by
  refine Mt.of (by decide) (Nat.le_of_ble_eq_true rfl) (fun p e s m below meth c ls hx hb hr hlk hml hown hnm hts hKK hsH hl hS => ?_)
  have hl : lv_has ls 5 [(0, .ref x), (1, .int a), (2, .int b)] := hl
  have hR0 := hR
  have hMx : mm_A (tw_M x ad) H x := Or.inl (Or.inl rfl)
  have hMa : ∀ j, tw_isA j = true → mm_A (tw_M x ad) H (ad j) := fun j hj => Or.inl (Or.inr ⟨j, hj, rfl⟩)
  have hnv := hW.nv
  have hnn := hW.nn
  refine lv_aload_n hx hb dX8_differences_0 rfl (lv_at hl 0 rfl) ?_
  refine lv_iload_n hx hb dX8_differences_1 rfl (lv_at hl 1 rfl) ?_
  refine lv_iload_n hx hb dX8_differences_2 rfl (lv_at hl 2 rfl) ?_
  refine mm_ri (va_runV (As := [.int a, .int b]) (rest := []) ⟨hx, hb, hml, hown, hts⟩ (t_checkTwo l hT hR hW) (cwV 2 hts (lw_V q2941 q2943 qs118 q164 q2944) rfl rfl rfl (by decide +kernel) ⟨Nat.le_of_ble_eq_true rfl, Nat.le_of_ble_eq_true rfl⟩) (mm_pV hKK (mm_rc hKK hT.2.1 mm_le.rf rfl)) rfl rfl hl.1 rfl (lv_room (Nat.le_of_ble_eq_true rfl)) dX8_differences_3 ⟨Nat.le_of_ble_eq_true rfl, Nat.le_of_ble_eq_true rfl⟩) hS (mm_sS hS) (fun H_3 L_3 hT hz_3 hq_3 hS => ?_)
  refine mm_ifneB (tgt := 11) hx hb dX8_differences_6 (by decide) (fun c_6 => ?_) (fun c_6 => ?_)
  · obtain ⟨hina, hinb, hrla, hrlb⟩ := is2_in c_6
    obtain ⟨ja, hja, heja, hcja⟩ := inR_t hina
    rw [heja] at hl
    obtain ⟨jb, hjb, hejb, hcjb⟩ := inR_t hinb
    rw [hejb] at hl
    rw [hcja] at hrla; rw [hcjb] at hrlb
    refine lv_iconst (v := nI 0) hx hb dX8_differences_11 (by decide) ?_
    refine lv_istore_n (lv' := [(3, .int (nI 0)), (0, .ref x), (1, .int (nI ja)), (2, .int (nI jb))]) hx hb dX8_differences_12 rfl hl (by decide) rfl (fun ls hl => ?_)
    refine lv_iconst (v := nI 0) hx hb dX8_differences_13 (by decide) ?_
    refine lv_istore (lv' := [(4, .int (nI 0)), (3, .int (nI 0)), (0, .ref x), (1, .int (nI ja)), (2, .int (nI jb))]) hx hb dX8_differences_14 hl (by decide) rfl (fun ls hl => ?_)
    have lp_16 : ∀ (fu : Nat) (i : Nat)  (L : List Loc) (ls : Array Slot), 64 - i < fu → (i ≤ 64) → lv_has ls 5 [(3, .int (nI (cB i (dfA S ja jb)))), (4, .int (nI i)), (0, .ref x), (1, .int (nI ja)), (2, .int (nI jb))] → va_S (mm_A (tw_M x ad) H) H H_3 L → W p l e (mm_rm 6 400 0 0) s m ([.ref x, .int a, .int b] : List Value).toArray below meth c H_3 L 0 0 (MQ below (mm_Qc H (tw_M x ad) (mm_i (qv (is2 S a b) (nI (cB 64 (dfA S a.toNatClampNeg b.toNatClampNeg)))) (fun H2 => TW G x ad (upd I 6 (ck (inR a (s_nv S) && inR b (s_nv S)) (is2 S a b) true)) F H2))) ([.ref x, .int a, .int b] : List Value).toArray s 0 0 (mm_A (tw_M x ad) H)) (F0 m 16 ls []) := by
      intro fu; induction fu with
      | zero => intro i L ls hfu; exact absurd hfu (Nat.not_lt_zero _)
      | succ fu ih =>
        intro i L ls hfu hi hl  hS
        have ih_16 := ih
        refine lv_iload hx hb dX8_differences_16 (lv_at hl 1 rfl) ?_
        refine lv_bipush (v := nI 64) hx hb dX8_differences_18 (by decide) ?_
        refine mm_icmp_ge (tgt := 43) (by omega) (by omega) hx hb dX8_differences_20 (by decide) (fun c_20 => ?_) (fun c_20 => ?_)
        · refine lv_iload_n hx hb dX8_differences_43 rfl (lv_at hl 0 rfl) ?_
          exact mm_iret (v := nI (cB i (dfA S ja jb))) hx hb hr hlk hS (Nat.le_of_ble_eq_true rfl) (Nat.le_of_ble_eq_true rfl) (⟨by rw [qv_t c_6, hcja, hcjb, show 64 = i by omega], hT⟩) dX8_differences_44
        · refine lv_iload_n hx hb dX8_differences_23 rfl (lv_at hl 0 rfl) ?_
          refine lv_aload_n hx hb dX8_differences_24 rfl (lv_at hl 2 rfl) ?_
          refine lv_iload_n hx hb dX8_differences_25 rfl (lv_at hl 3 rfl) ?_
          refine lv_iload_n hx hb dX8_differences_26 rfl (lv_at hl 4 rfl) ?_
          refine lv_iload hx hb dX8_differences_27 (lv_at hl 1 rfl) ?_
          refine mm_rpu (va_runV (As := [.int (nI ja), .int (nI jb), .int (nI i)]) (rest := [.int (nI (cB i (dfA S ja jb)))]) ⟨hx, hb, hml, hown, hts⟩ (t_differAt l hT hR hW (by first | assumption | omega) (by first | assumption | omega) (by first | assumption | omega)) (cwV 3 hts (lw_V q2985 q2987 qs123 q164 q2988) rfl rfl rfl (by decide +kernel) ⟨Nat.le_of_ble_eq_true rfl, Nat.le_of_ble_eq_true rfl⟩) (mm_pV hKK (mm_rc hKK hT.2.1 mm_le.rf rfl)) rfl rfl hl.1 rfl (lv_room (Nat.le_of_ble_eq_true rfl)) dX8_differences_29 ⟨Nat.le_of_ble_eq_true rfl, Nat.le_of_ble_eq_true rfl⟩) hS (mm_s0 hS) (fun L_29 hS => ?_)
          refine mm_rpu (va_runS (As := [.int (mm_b (dfA S ja jb i))]) (rest := [.int (nI (cB i (dfA S ja jb)))]) ⟨hx, hb, hml, hown, hts⟩ (t_one l ) (va_cwS 1 hts (lw_S q2467 q2468 q164 q2469) rfl rfl rfl (by decide +kernel) ⟨Nat.le_of_ble_eq_true rfl, Nat.le_of_ble_eq_true rfl⟩) (mm_pS hKK) rfl rfl hl.1 rfl (lv_room (Nat.le_of_ble_eq_true rfl)) dX8_differences_32 ⟨Nat.le_of_ble_eq_true rfl, Nat.le_of_ble_eq_true rfl⟩) hS (mm_s0 hS) (fun L_32 hS => ?_)
          refine lv_iadd hx hb dX8_differences_35 ?_
          refine mm_top (mm_iB _ _) ?_
          refine mm_top (y := nI (cB (i + 1) (dfA S ja jb))) (congrArg nI (by rw [cB_succ])) ?_
          refine lv_istore_n (lv' := [(3, .int (nI (cB (i + 1) (dfA S ja jb)))), (4, .int (nI i)), (0, .ref x), (1, .int (nI ja)), (2, .int (nI jb))]) hx hb dX8_differences_36 rfl hl (by decide) rfl (fun ls hl => ?_)
          refine lv_iinc (v := nI (i + 1)) (lv' := [(4, .int (nI (i + 1))), (3, .int (nI (cB (i + 1) (dfA S ja jb)))), (0, .ref x), (1, .int (nI ja)), (2, .int (nI jb))]) hx hb dX8_differences_37 hl (k := 1) rfl (nI_add _ _) (by decide) rfl (fun ls hl => ?_)
          refine lv_goto (tgt := 16) hx hb dX8_differences_40 (by decide) ?_
          exact ih_16 (i + 1) _ _ (by omega) (by omega) (lv_sub hl [1, 0, 2, 3, 4] rfl)  hS
    exact lp_16 _ 0 _ _ (Nat.lt_succ_self _) (by omega) (lv_sub hl [1, 0, 2, 3, 4] rfl)  hS
  · refine lv_iconst (v := nI 0) hx hb dX8_differences_9 (by decide) ?_
    exact mm_iret (v := nI 0) hx hb hr hlk hS (Nat.le_of_ble_eq_true rfl) (Nat.le_of_ble_eq_true rfl) (⟨by rw [qv_f c_6]; rfl, hT⟩) dX8_differences_10
set_option maxRecDepth 100000 in
theorem t_firstDifference (l : Launch) {G : mm_G} {P : mm_H} {H : Heap} {x : Nat} {ad : Nat → Nat} {I : Nat → Int32} {F : Nat → Nat → Int32} {S : sp_S} {a b : Int32} (hT : TW G x ad I F H) (hR : TR (F 0) S) (hW : WF S) : Mt l yX8_firstDifference (ws_ yX8_firstDifference cX8_firstDifference 4 (some .int)) 6 400 0 0 G P [.ref x, .int a, .int b] H (tw_M x ad) (mm_i (qv (is2 S a b) (oI (fI 64 (dfA S a.toNatClampNeg b.toNatClampNeg)))) (fun H2 => TW G x ad (upd I 6 (ck (inR a (s_nv S) && inR b (s_nv S)) (is2 S a b) true)) F H2)) := by
  refine Mt.of (by decide) (Nat.le_of_ble_eq_true rfl) (fun p e s m below meth c ls hx hb hr hlk hml hown hnm hts hKK hsH hl hS => ?_)
  have hl : lv_has ls 4 [(0, .ref x), (1, .int a), (2, .int b)] := hl
  have hR0 := hR
  have hMx : mm_A (tw_M x ad) H x := Or.inl (Or.inl rfl)
  have hMa : ∀ j, tw_isA j = true → mm_A (tw_M x ad) H (ad j) := fun j hj => Or.inl (Or.inr ⟨j, hj, rfl⟩)
  have hnv := hW.nv
  have hnn := hW.nn
  refine lv_aload_n hx hb dX8_firstDifference_0 rfl (lv_at hl 0 rfl) ?_
  refine lv_iload_n hx hb dX8_firstDifference_1 rfl (lv_at hl 1 rfl) ?_
  refine lv_iload_n hx hb dX8_firstDifference_2 rfl (lv_at hl 2 rfl) ?_
  refine mm_ri (va_runV (As := [.int a, .int b]) (rest := []) ⟨hx, hb, hml, hown, hts⟩ (t_checkTwo l hT hR hW) (cwV 2 hts (lw_V q2941 q2943 qs118 q164 q2944) rfl rfl rfl (by decide +kernel) ⟨Nat.le_of_ble_eq_true rfl, Nat.le_of_ble_eq_true rfl⟩) (mm_pV hKK (mm_rc hKK hT.2.1 mm_le.rf rfl)) rfl rfl hl.1 rfl (lv_room (Nat.le_of_ble_eq_true rfl)) dX8_firstDifference_3 ⟨Nat.le_of_ble_eq_true rfl, Nat.le_of_ble_eq_true rfl⟩) hS (mm_sS hS) (fun H_3 L_3 hT hz_3 hq_3 hS => ?_)
  refine mm_ifneB (tgt := 11) hx hb dX8_firstDifference_6 (by decide) (fun c_6 => ?_) (fun c_6 => ?_)
  · obtain ⟨hina, hinb, hrla, hrlb⟩ := is2_in c_6
    obtain ⟨ja, hja, heja, hcja⟩ := inR_t hina
    rw [heja] at hl
    obtain ⟨jb, hjb, hejb, hcjb⟩ := inR_t hinb
    rw [hejb] at hl
    rw [hcja] at hrla; rw [hcjb] at hrlb
    refine lv_iconst (v := nI 0) hx hb dX8_firstDifference_11 (by decide) ?_
    refine lv_istore_n (lv' := [(3, .int (nI 0)), (0, .ref x), (1, .int (nI ja)), (2, .int (nI jb))]) hx hb dX8_firstDifference_12 rfl hl (by decide) rfl (fun ls hl => ?_)
    have lp_13 : ∀ (fu : Nat) (i : Nat)  (L : List Loc) (ls : Array Slot), 64 - i < fu → (i ≤ 64) → (∀ j, j < i → dfA S ja jb j = false) → lv_has ls 4 [(3, .int (nI i)), (0, .ref x), (1, .int (nI ja)), (2, .int (nI jb))] → va_S (mm_A (tw_M x ad) H) H H_3 L → W p l e (mm_rm 6 400 0 0) s m ([.ref x, .int a, .int b] : List Value).toArray below meth c H_3 L 0 0 (MQ below (mm_Qc H (tw_M x ad) (mm_i (qv (is2 S a b) (oI (fI 64 (dfA S a.toNatClampNeg b.toNatClampNeg)))) (fun H2 => TW G x ad (upd I 6 (ck (inR a (s_nv S) && inR b (s_nv S)) (is2 S a b) true)) F H2))) ([.ref x, .int a, .int b] : List Value).toArray s 0 0 (mm_A (tw_M x ad) H)) (F0 m 13 ls []) := by
      intro fu; induction fu with
      | zero => intro i L ls hfu; exact absurd hfu (Nat.not_lt_zero _)
      | succ fu ih =>
        intro i L ls hfu hi hne hl  hS
        have ih_13 := ih
        refine lv_iload_n hx hb dX8_firstDifference_13 rfl (lv_at hl 0 rfl) ?_
        refine lv_bipush (v := nI 64) hx hb dX8_firstDifference_14 (by decide) ?_
        refine mm_icmp_ge (tgt := 37) (by omega) (by omega) hx hb dX8_firstDifference_16 (by decide) (fun c_16 => ?_) (fun c_16 => ?_)
        · refine lv_iconst (v := (-1)) hx hb dX8_firstDifference_37 (by decide) ?_
          exact mm_iret (v := (-1)) hx hb hr hlk hS (Nat.le_of_ble_eq_true rfl) (Nat.le_of_ble_eq_true rfl) (⟨by rw [qv_t c_6, hcja, hcjb, fI_none (fun j hj => hne j (by omega))]; rfl, hT⟩) dX8_firstDifference_38
        · refine lv_aload_n hx hb dX8_firstDifference_19 rfl (lv_at hl 1 rfl) ?_
          refine lv_iload_n hx hb dX8_firstDifference_20 rfl (lv_at hl 2 rfl) ?_
          refine lv_iload_n hx hb dX8_firstDifference_21 rfl (lv_at hl 3 rfl) ?_
          refine lv_iload_n hx hb dX8_firstDifference_22 rfl (lv_at hl 0 rfl) ?_
          refine mm_rpu (va_runV (As := [.int (nI ja), .int (nI jb), .int (nI i)]) (rest := []) ⟨hx, hb, hml, hown, hts⟩ (t_differAt l hT hR hW (by first | assumption | omega) (by first | assumption | omega) (by first | assumption | omega)) (cwV 3 hts (lw_V q2985 q2987 qs123 q164 q2988) rfl rfl rfl (by decide +kernel) ⟨Nat.le_of_ble_eq_true rfl, Nat.le_of_ble_eq_true rfl⟩) (mm_pV hKK (mm_rc hKK hT.2.1 mm_le.rf rfl)) rfl rfl hl.1 rfl (lv_room (Nat.le_of_ble_eq_true rfl)) dX8_firstDifference_23 ⟨Nat.le_of_ble_eq_true rfl, Nat.le_of_ble_eq_true rfl⟩) hS (mm_s0 hS) (fun L_23 hS => ?_)
          refine mm_ifeqB (tgt := 31) hx hb dX8_firstDifference_26 (by decide) (fun c_26 => ?_) (fun c_26 => ?_)
          · refine lv_iinc (v := nI (i + 1)) (lv' := [(3, .int (nI (i + 1))), (0, .ref x), (1, .int (nI ja)), (2, .int (nI jb))]) hx hb dX8_firstDifference_31 hl (k := 0) rfl (nI_add _ _) (by decide) rfl (fun ls hl => ?_)
            refine lv_goto (tgt := 13) hx hb dX8_firstDifference_34 (by decide) ?_
            exact ih_13 (i + 1) _ _ (by omega) (by omega) (fun j hj => by rcases Nat.lt_or_ge j i with z | z; exact hne j z; rw [show j = i by omega]; exact c_26) (lv_sub hl [0, 1, 2, 3] rfl)  hS
          · refine lv_iload_n hx hb dX8_firstDifference_29 rfl (lv_at hl 0 rfl) ?_
            exact mm_iret (v := nI i) hx hb hr hlk hS (Nat.le_of_ble_eq_true rfl) (Nat.le_of_ble_eq_true rfl) (⟨by rw [qv_t c_6, hcja, hcjb, fI_some (i := i) (by omega) c_26 hne]; rfl, hT⟩) dX8_firstDifference_30
    exact lp_13 _ 0 _ _ (Nat.lt_succ_self _) (by omega) (fun j hj => absurd hj (Nat.not_lt_zero _)) (lv_sub hl [0, 1, 2, 3] rfl)  hS
  · refine lv_iconst (v := nI 0) hx hb dX8_firstDifference_9 (by decide) ?_
    exact mm_iret (v := nI 0) hx hb hr hlk hS (Nat.le_of_ble_eq_true rfl) (Nat.le_of_ble_eq_true rfl) (⟨by rw [qv_f c_6]; rfl, hT⟩) dX8_firstDifference_10
set_option maxRecDepth 100000 in
theorem t_nodesForAppend (l : Launch) {G : mm_G} {P : mm_H} {H : Heap} {x : Nat} {ad : Nat → Nat} {I : Nat → Int32} {F : Nat → Nat → Int32} {S : sp_S} {a : Int32} (hT : TW G x ad I F H) (hR : TR (F 0) S) (hW : WF S) : Mt l yX8_nodesForAppend (ws_ yX8_nodesForAppend cX8_nodesForAppend 3 (some .int)) 6 400 0 0 G P [.ref x, .int a] H (tw_M x ad) (mm_i (qv (isLv S a) (if s_len S a.toNatClampNeg = 64 then -1 else nI (hf (s_len S a.toNatClampNeg + 1)))) (fun H2 => TW G x ad (upd I 6 (ck (inR a (s_nv S)) (isLv S a) true)) F H2)) := by
  refine Mt.of (by decide) (Nat.le_of_ble_eq_true rfl) (fun p e s m below meth c ls hx hb hr hlk hml hown hnm hts hKK hsH hl hS => ?_)
  have hl : lv_has ls 3 [(0, .ref x), (1, .int a)] := hl
  have hR0 := hR
  have hMx : mm_A (tw_M x ad) H x := Or.inl (Or.inl rfl)
  have hMa : ∀ j, tw_isA j = true → mm_A (tw_M x ad) H (ad j) := fun j hj => Or.inl (Or.inr ⟨j, hj, rfl⟩)
  have hnv := hW.nv
  have hnn := hW.nn
  refine lv_aload_n hx hb dX8_nodesForAppend_0 rfl (lv_at hl 0 rfl) ?_
  refine lv_iload_n hx hb dX8_nodesForAppend_1 rfl (lv_at hl 1 rfl) ?_
  refine mm_ri (va_runV (As := [.int a]) (rest := []) ⟨hx, hb, hml, hown, hts⟩ (t_checkLive l hT hR hW) (cwV 1 hts (lw_V q2869 q2871 qs112 q164 q2872) rfl rfl rfl (by decide +kernel) ⟨Nat.le_of_ble_eq_true rfl, Nat.le_of_ble_eq_true rfl⟩) (mm_pV hKK (mm_rc hKK hT.2.1 mm_le.rf rfl)) rfl rfl hl.1 rfl (lv_room (Nat.le_of_ble_eq_true rfl)) dX8_nodesForAppend_2 ⟨Nat.le_of_ble_eq_true rfl, Nat.le_of_ble_eq_true rfl⟩) hS (mm_sS hS) (fun H_2 L_2 hT hz_2 hq_2 hS => ?_)
  refine mm_ifneB (tgt := 10) hx hb dX8_nodesForAppend_5 (by decide) (fun c_5 => ?_) (fun c_5 => ?_)
  · obtain ⟨hina, hrla⟩ := isLv_in c_5
    obtain ⟨ja, hja, heja, hcja⟩ := inR_t hina
    rw [heja] at hl
    rw [hcja] at hrla
    have hlenj := hW.len hja
    refine lv_aload_n hx hb dX8_nodesForAppend_10 rfl (lv_at hl 0 rfl) ?_
    refine lv_iload_n hx hb dX8_nodesForAppend_11 rfl (lv_at hl 1 rfl) ?_
    refine mm_rpu (va_runV (As := [.int (nI ja)]) (rest := []) ⟨hx, hb, hml, hown, hts⟩ (t_lengthOf l hT hR hW (by first | assumption | omega)) (cwV 1 hts (lw_V q2487 q2489 qs60 q164 q2490) rfl rfl rfl (by decide +kernel) ⟨Nat.le_of_ble_eq_true rfl, Nat.le_of_ble_eq_true rfl⟩) (mm_pV hKK (mm_rc hKK hT.2.1 mm_le.rf rfl)) rfl rfl hl.1 rfl (lv_room (Nat.le_of_ble_eq_true rfl)) dX8_nodesForAppend_12 ⟨Nat.le_of_ble_eq_true rfl, Nat.le_of_ble_eq_true rfl⟩) hS (mm_s0 hS) (fun L_12 hS => ?_)
    refine lv_istore_n (lv' := [(2, .int (nI (s_len S ja))), (0, .ref x), (1, .int (nI ja))]) hx hb dX8_nodesForAppend_15 rfl hl (by decide) rfl (fun ls hl => ?_)
    refine lv_iload_n hx hb dX8_nodesForAppend_16 rfl (lv_at hl 0 rfl) ?_
    refine lv_bipush (v := nI 64) hx hb dX8_nodesForAppend_17 (by decide) ?_
    refine mm_icmp_ne (tgt := 26) (by omega) (by omega) hx hb dX8_nodesForAppend_19 (by decide) (fun c_19 => ?_) (fun c_19 => ?_)
    · refine lv_iload_n hx hb dX8_nodesForAppend_26 rfl (lv_at hl 0 rfl) ?_
      refine lv_iconst (v := nI 1) hx hb dX8_nodesForAppend_27 (by decide) ?_
      refine mm_iadd hx hb dX8_nodesForAppend_28 ?_
      refine mm_rpu (va_runS (As := [.int (nI (s_len S ja + 1))]) (rest := []) ⟨hx, hb, hml, hown, hts⟩ (t_heightFor l (by omega)) (va_cwS 1 hts (lw_S q2481 q2482 q164 q2483) rfl rfl rfl (by decide +kernel) ⟨Nat.le_of_ble_eq_true rfl, Nat.le_of_ble_eq_true rfl⟩) (mm_pS hKK) rfl rfl hl.1 rfl (lv_room (Nat.le_of_ble_eq_true rfl)) dX8_nodesForAppend_29 ⟨Nat.le_of_ble_eq_true rfl, Nat.le_of_ble_eq_true rfl⟩) hS (mm_s0 hS) (fun L_29 hS => ?_)
      exact mm_iret (v := nI (hf (s_len S ja + 1))) hx hb hr hlk hS (Nat.le_of_ble_eq_true rfl) (Nat.le_of_ble_eq_true rfl) (⟨by rw [qv_t c_5, hcja, if_neg c_19], hT⟩) dX8_nodesForAppend_32
    · refine lv_iconst (v := (-1)) hx hb dX8_nodesForAppend_22 (by decide) ?_
      refine lv_goto (tgt := 32) hx hb dX8_nodesForAppend_23 (by decide) ?_
      exact mm_iret (v := (-1)) hx hb hr hlk hS (Nat.le_of_ble_eq_true rfl) (Nat.le_of_ble_eq_true rfl) (⟨by rw [qv_t c_5, hcja, if_pos c_19], hT⟩) dX8_nodesForAppend_32
  · refine lv_iconst (v := nI 0) hx hb dX8_nodesForAppend_8 (by decide) ?_
    exact mm_iret (v := nI 0) hx hb hr hlk hS (Nat.le_of_ble_eq_true rfl) (Nat.le_of_ble_eq_true rfl) (⟨by rw [qv_f c_5]; rfl, hT⟩) dX8_nodesForAppend_9
set_option maxRecDepth 100000 in
theorem t_childOf (l : Launch) {G : mm_G} {P : mm_H} {H : Heap} {x : Nat} {ad : Nat → Nat} {I : Nat → Int32} {F : Nat → Nat → Int32} {S : sp_S} {a b : Int32} (hT : TW G x ad I F H) (hR : TR (F 0) S) (hW : WF S) : Mt l yX8_childOf (ws_ yX8_childOf cX8_childOf 4 (some .int)) 6 400 0 0 G P [.ref x, .int a, .int b] H (tw_M x ad) (mm_i (qv (isSt S a) (if (!s_leaf S a.toNatClampNeg && inR b (s_cnt S a.toNatClampNeg)) = true then s_ent S a.toNatClampNeg b.toNatClampNeg else -1)) (fun H2 => TW G x ad (upd I 6 (ck (isSt S a) true true)) F H2)) := by
  refine Mt.of (by decide) (Nat.le_of_ble_eq_true rfl) (fun p e s m below meth c ls hx hb hr hlk hml hown hnm hts hKK hsH hl hS => ?_)
  have hl : lv_has ls 4 [(0, .ref x), (1, .int a), (2, .int b)] := hl
  have hR0 := hR
  have hMx : mm_A (tw_M x ad) H x := Or.inl (Or.inl rfl)
  have hMa : ∀ j, tw_isA j = true → mm_A (tw_M x ad) H (ad j) := fun j hj => Or.inl (Or.inr ⟨j, hj, rfl⟩)
  have hnv := hW.nv
  have hnn := hW.nn
  refine lv_aload_n hx hb dX8_childOf_0 rfl (lv_at hl 0 rfl) ?_
  refine lv_iload_n hx hb dX8_childOf_1 rfl (lv_at hl 1 rfl) ?_
  refine mm_ri (va_runV (As := [.int a]) (rest := []) ⟨hx, hb, hml, hown, hts⟩ (t_checkNode l hT hR hW) (cwV 1 hts (lw_V q2961 q2963 qs121 q164 q2964) rfl rfl rfl (by decide +kernel) ⟨Nat.le_of_ble_eq_true rfl, Nat.le_of_ble_eq_true rfl⟩) (mm_pV hKK (mm_rc hKK hT.2.1 mm_le.rf rfl)) rfl rfl hl.1 rfl (lv_room (Nat.le_of_ble_eq_true rfl)) dX8_childOf_2 ⟨Nat.le_of_ble_eq_true rfl, Nat.le_of_ble_eq_true rfl⟩) hS (mm_sS hS) (fun H_2 L_2 hT hz_2 hq_2 hS => ?_)
  refine mm_ifneB (tgt := 10) hx hb dX8_childOf_5 (by decide) (fun c_5 => ?_) (fun c_5 => ?_)
  · obtain ⟨hina, hsta⟩ := isSt_in c_5
    obtain ⟨ja, hja, heja, hcja⟩ := inR_t hina
    rw [heja] at hl
    rw [hcja] at hsta
    have hcntj := hW.cnt hja
    refine lv_aload_n hx hb dX8_childOf_10 rfl (lv_at hl 0 rfl) ?_
    refine lv_iload_n hx hb dX8_childOf_11 rfl (lv_at hl 1 rfl) ?_
    refine mm_rpu (va_runV (As := [.int (nI ja)]) (rest := []) ⟨hx, hb, hml, hown, hts⟩ (t_isLeafNode l hT hR hW (by first | assumption | omega)) (cwV 1 hts (lw_V q2793 q2795 qs101 q164 q2796) rfl rfl rfl (by decide +kernel) ⟨Nat.le_of_ble_eq_true rfl, Nat.le_of_ble_eq_true rfl⟩) (mm_pV hKK (mm_rc hKK hT.2.1 mm_le.rf rfl)) rfl rfl hl.1 rfl (lv_room (Nat.le_of_ble_eq_true rfl)) dX8_childOf_12 ⟨Nat.le_of_ble_eq_true rfl, Nat.le_of_ble_eq_true rfl⟩) hS (mm_s0 hS) (fun L_12 hS => ?_)
    refine mm_ifneB (tgt := 39) hx hb dX8_childOf_15 (by decide) (fun c_15 => ?_) (fun c_15 => ?_)
    · refine lv_iconst (v := nI 0) hx hb dX8_childOf_39 (by decide) ?_
      refine lv_istore_n (lv' := [(3, .int (nI 0)), (0, .ref x), (1, .int (nI ja)), (2, .int b)]) hx hb dX8_childOf_40 rfl hl (by decide) rfl (fun ls hl => ?_)
      refine lv_iload_n hx hb dX8_childOf_41 rfl (lv_at hl 0 rfl) ?_
      refine mm_if_eq (tgt := 54) (by omega) hx hb dX8_childOf_42 (by decide) (fun c_42 => ?_) (fun c_42 => ?_)
      · refine lv_iconst (v := (-1)) hx hb dX8_childOf_54 (by decide) ?_
        exact mm_iret (v := (-1)) hx hb hr hlk hS (Nat.le_of_ble_eq_true rfl) (Nat.le_of_ble_eq_true rfl) (⟨by rw [qv_t c_5, hcja, if_neg (by first | (rw [c_15, c_32]; decide) | (rw [c_15]; simp))], hT⟩) dX8_childOf_55
      · exact absurd c_42 (by decide)
    · refine lv_iload_n hx hb dX8_childOf_18 rfl (lv_at hl 2 rfl) ?_
      refine lv_i2l (v := b.toInt64) hx hb dX8_childOf_19 rfl ?_
      refine lv_lconst (v := 0) hx hb dX8_childOf_20 (by decide) ?_
      refine lv_aload_n hx hb dX8_childOf_21 rfl (lv_at hl 0 rfl) ?_
      refine lv_iload_n hx hb dX8_childOf_22 rfl (lv_at hl 1 rfl) ?_
      refine mm_rpu (va_runV (As := [.int (nI ja)]) (rest := [.long 0, .long b.toInt64]) ⟨hx, hb, hml, hown, hts⟩ (t_countOf l hT hR hW (by first | assumption | omega)) (cwV 1 hts (lw_V q2745 q2747 qs89 q164 q2748) rfl rfl rfl (by decide +kernel) ⟨Nat.le_of_ble_eq_true rfl, Nat.le_of_ble_eq_true rfl⟩) (mm_pV hKK (mm_rc hKK hT.2.1 mm_le.rf rfl)) rfl rfl hl.1 rfl (lv_room (Nat.le_of_ble_eq_true rfl)) dX8_childOf_23 ⟨Nat.le_of_ble_eq_true rfl, Nat.le_of_ble_eq_true rfl⟩) hS (mm_s0 hS) (fun L_23 hS => ?_)
      refine lv_iconst (v := nI 1) hx hb dX8_childOf_26 (by decide) ?_
      refine lv_isub hx hb dX8_childOf_27 ?_
      refine lv_i2l (v := ((nI (s_cnt S ja)) - (nI 1)).toInt64) hx hb dX8_childOf_28 rfl ?_
      refine mm_rpu (va_runS (As := [.long b.toInt64, .long 0, .long (((nI (s_cnt S ja)) - (nI 1)).toInt64)]) (rest := []) ⟨hx, hb, hml, hown, hts⟩ (t_isWithin l ) (va_cwS 3 hts (lw_S q2599 q2600 q164 q2601) rfl rfl rfl (by decide +kernel) ⟨Nat.le_of_ble_eq_true rfl, Nat.le_of_ble_eq_true rfl⟩) (mm_pS hKK) rfl rfl hl.1 rfl (lv_room (Nat.le_of_ble_eq_true rfl)) dX8_childOf_29 ⟨Nat.le_of_ble_eq_true rfl, Nat.le_of_ble_eq_true rfl⟩) hS (mm_s0 hS) (fun L_29 hS => ?_)
      refine mm_top (y := mm_b (inR b (s_cnt S ja))) (congrArg mm_b (w_inR b (n := s_cnt S ja) (by omega))) ?_
      refine mm_ifeqB (tgt := 39) hx hb dX8_childOf_32 (by decide) (fun c_32 => ?_) (fun c_32 => ?_)
      · refine lv_iconst (v := nI 0) hx hb dX8_childOf_39 (by decide) ?_
        refine lv_istore_n (lv' := [(3, .int (nI 0)), (0, .ref x), (1, .int (nI ja)), (2, .int b)]) hx hb dX8_childOf_40 rfl hl (by decide) rfl (fun ls hl => ?_)
        refine lv_iload_n hx hb dX8_childOf_41 rfl (lv_at hl 0 rfl) ?_
        refine mm_if_eq (tgt := 54) (by omega) hx hb dX8_childOf_42 (by decide) (fun c_42 => ?_) (fun c_42 => ?_)
        · refine lv_iconst (v := (-1)) hx hb dX8_childOf_54 (by decide) ?_
          exact mm_iret (v := (-1)) hx hb hr hlk hS (Nat.le_of_ble_eq_true rfl) (Nat.le_of_ble_eq_true rfl) (⟨by rw [qv_t c_5, hcja, if_neg (by first | (rw [c_15, c_32]; decide) | (rw [c_15]; simp))], hT⟩) dX8_childOf_55
        · exact absurd c_42 (by decide)
      · have hinb := c_32
        obtain ⟨jb, hjb, hejb, hcjb⟩ := inR_t hinb
        rw [hejb] at hl
        refine lv_iconst (v := nI 1) hx hb dX8_childOf_35 (by decide) ?_
        refine lv_goto (tgt := 40) hx hb dX8_childOf_36 (by decide) ?_
        refine lv_istore_n (lv' := [(3, .int (nI 1)), (0, .ref x), (1, .int (nI ja)), (2, .int (nI jb))]) hx hb dX8_childOf_40 rfl hl (by decide) rfl (fun ls hl => ?_)
        refine lv_iload_n hx hb dX8_childOf_41 rfl (lv_at hl 0 rfl) ?_
        refine mm_if_eq (tgt := 54) (by omega) hx hb dX8_childOf_42 (by decide) (fun c_42 => ?_) (fun c_42 => ?_)
        · exact absurd c_42 (by decide)
        · refine lv_aload_n hx hb dX8_childOf_45 rfl (lv_at hl 1 rfl) ?_
          refine lv_iload_n hx hb dX8_childOf_46 rfl (lv_at hl 2 rfl) ?_
          refine lv_iload_n hx hb dX8_childOf_47 rfl (lv_at hl 3 rfl) ?_
          refine mm_rpu (va_runV (As := [.int (nI ja), .int (nI jb)]) (rest := []) ⟨hx, hb, hml, hown, hts⟩ (t_entry l hT hR hW (by first | assumption | omega) (by first | assumption | omega)) (cwV 2 hts (lw_V q2753 q2755 qs91 q164 q2756) rfl rfl rfl (by decide +kernel) ⟨Nat.le_of_ble_eq_true rfl, Nat.le_of_ble_eq_true rfl⟩) (mm_pV hKK (mm_rc hKK hT.2.1 mm_le.rf rfl)) rfl rfl hl.1 rfl (lv_room (Nat.le_of_ble_eq_true rfl)) dX8_childOf_48 ⟨Nat.le_of_ble_eq_true rfl, Nat.le_of_ble_eq_true rfl⟩) hS (mm_s0 hS) (fun L_48 hS => ?_)
          refine lv_goto (tgt := 55) hx hb dX8_childOf_51 (by decide) ?_
          exact mm_iret (v := s_ent S ja jb) hx hb hr hlk hS (Nat.le_of_ble_eq_true rfl) (Nat.le_of_ble_eq_true rfl) (⟨by rw [qv_t c_5, hcja, if_pos (by rw [c_15, hinb]; rfl), hcjb], hT⟩) dX8_childOf_55
  · refine lv_iconst (v := nI 0) hx hb dX8_childOf_8 (by decide) ?_
    exact mm_iret (v := nI 0) hx hb hr hlk hS (Nat.le_of_ble_eq_true rfl) (Nat.le_of_ble_eq_true rfl) (⟨by rw [qv_f c_5]; rfl, hT⟩) dX8_childOf_9
set_option maxRecDepth 100000 in
theorem t_largestVersion (l : Launch) {G : mm_G} {P : mm_H} {H : Heap} {x : Nat} {ad : Nat → Nat} {I : Nat → Int32} {F : Nat → Nat → Int32} {S : sp_S} (hT : TW G x ad I F H) (hR : TR (F 0) S) (hW : WF S) : Mt l yX8_largestVersion (ws_ yX8_largestVersion cX8_largestVersion 3 (some .int)) 6 400 0 0 G P [.ref x] H (tw_M x ad) (mm_i (oI (lgV S (s_nv S))) (fun H2 => TW G x ad (upd I 6 (nI 0)) F H2)) := by
  refine Mt.of (by decide) (Nat.le_of_ble_eq_true rfl) (fun p e s m below meth c ls hx hb hr hlk hml hown hnm hts hKK hsH hl hS => ?_)
  have hl : lv_has ls 3 [(0, .ref x)] := hl
  have hR0 := hR
  have hMx : mm_A (tw_M x ad) H x := Or.inl (Or.inl rfl)
  have hMa : ∀ j, tw_isA j = true → mm_A (tw_M x ad) H (ad j) := fun j hj => Or.inl (Or.inr ⟨j, hj, rfl⟩)
  have hnv := hW.nv
  have hnn := hW.nn
  refine lv_aload_n hx hb dX8_largestVersion_0 rfl (lv_at hl 0 rfl) ?_
  refine lv_iconst (v := nI 0) hx hb dX8_largestVersion_1 (by decide) ?_
  refine tw_put 6 hx hb hts hown hKK hT hS (hMx) (by decide) rfl (by decide) ⟨rfl, rfl⟩ (hts _ q2504) dX8_largestVersion_2 (fun H_2 L_2 hT hz_2 hq_2 hS => ?_)
  refine lv_iconst (v := (-1)) hx hb dX8_largestVersion_5 (by decide) ?_
  refine lv_istore_n (lv' := [(1, .int (oI none)), (0, .ref x)]) hx hb dX8_largestVersion_6 rfl hl (by decide) rfl (fun ls hl => ?_)
  refine lv_iconst (v := nI 0) hx hb dX8_largestVersion_7 (by decide) ?_
  refine lv_istore_n (lv' := [(2, .int (nI 0)), (1, .int (oI none)), (0, .ref x)]) hx hb dX8_largestVersion_8 rfl hl (by decide) rfl (fun ls hl => ?_)
  have lp_9 : ∀ (fu : Nat) (i : Nat) (o : Option Nat)  (L : List Loc) (ls : Array Slot), s_nv S - i < fu → (i ≤ s_nv S) → (o = lgV S i) → (∀ r, o = some r → r < i) → lv_has ls 3 [(1, .int (oI o)), (2, .int (nI i)), (0, .ref x)] → va_S (mm_A (tw_M x ad) H) H H_2 L → W p l e (mm_rm 6 400 0 0) s m ([.ref x] : List Value).toArray below meth c H_2 L 0 0 (MQ below (mm_Qc H (tw_M x ad) (mm_i (oI (lgV S (s_nv S))) (fun H2 => TW G x ad (upd I 6 (nI 0)) F H2))) ([.ref x] : List Value).toArray s 0 0 (mm_A (tw_M x ad) H)) (F0 m 9 ls []) := by
    intro fu; induction fu with
    | zero => intro i o L ls hfu; exact absurd hfu (Nat.not_lt_zero _)
    | succ fu ih =>
      intro i o L ls hfu hi hlg hlr hl  hS
      have ih_9 := ih
      refine lv_iload_n hx hb dX8_largestVersion_9 rfl (lv_at hl 1 rfl) ?_
      refine lv_aload_n hx hb dX8_largestVersion_10 rfl (lv_at hl 2 rfl) ?_
      refine tw_geta 0 hx hb hts hown hKK hT rfl rfl (hts _ q2498) dX8_largestVersion_11 ?_
      refine lv_iconst (v := nI 0) hx hb dX8_largestVersion_14 (by decide) ?_
      refine mm_iald (k := 0) hx hb hKK (hT.2.2 0 rfl) mm_le.rf (by show _ < 4210; omega) (by decide) dX8_largestVersion_15 ?_
      refine mm_top (y := nI (s_nv S)) (hR.nv) ?_
      refine mm_icmp_ge (tgt := 53) (by omega) (by omega) hx hb dX8_largestVersion_16 (by decide) (fun c_16 => ?_) (fun c_16 => ?_)
      · refine lv_iload_n hx hb dX8_largestVersion_53 rfl (lv_at hl 0 rfl) ?_
        exact mm_iret (v := oI o) hx hb hr hlk hS (Nat.le_of_ble_eq_true rfl) (Nat.le_of_ble_eq_true rfl) (⟨by rw [hlg, show s_nv S = i by omega], hT⟩) dX8_largestVersion_54
      · refine lv_aload_n hx hb dX8_largestVersion_19 rfl (lv_at hl 2 rfl) ?_
        refine lv_iload_n hx hb dX8_largestVersion_20 rfl (lv_at hl 1 rfl) ?_
        refine mm_rpu (va_runV (As := [.int (nI i)]) (rest := []) ⟨hx, hb, hml, hown, hts⟩ (t_isGone l hT hR hW (by first | assumption | omega)) (cwV 1 hts (lw_V q2717 q2719 qs82 q164 q2720) rfl rfl rfl (by decide +kernel) ⟨Nat.le_of_ble_eq_true rfl, Nat.le_of_ble_eq_true rfl⟩) (mm_pV hKK (mm_rc hKK hT.2.1 mm_le.rf rfl)) rfl rfl hl.1 rfl (lv_room (Nat.le_of_ble_eq_true rfl)) dX8_largestVersion_21 ⟨Nat.le_of_ble_eq_true rfl, Nat.le_of_ble_eq_true rfl⟩) hS (mm_s0 hS) (fun L_21 hS => ?_)
        refine mm_ifneB (tgt := 47) hx hb dX8_largestVersion_24 (by decide) (fun c_24 => ?_) (fun c_24 => ?_)
        · refine lv_iinc (v := nI (i + 1)) (lv' := [(2, .int (nI (i + 1))), (1, .int (oI o)), (0, .ref x)]) hx hb dX8_largestVersion_47 hl (k := 1) rfl (nI_add _ _) (by decide) rfl (fun ls hl => ?_)
          refine lv_goto (tgt := 9) hx hb dX8_largestVersion_50 (by decide) ?_
          exact ih_9 (i + 1) o _ _ (by omega) (by omega) (by rw [hlg, lgV_a c_24]) (fun r hr => by have := hlr r hr; omega) (lv_sub hl [1, 0, 2] rfl)  hS
        · have hli := hW.len (show i < s_nv S by omega)
          refine lv_iload_n hx hb dX8_largestVersion_27 rfl (lv_at hl 0 rfl) ?_
          refine lv_iconst (v := (-1)) hx hb dX8_largestVersion_28 (by decide) ?_
          refine mm_icmp_eqM (tgt := 45) (fun r hr => by have := hlr r hr; omega) hx hb dX8_largestVersion_29 (by decide) (fun c_29 => ?_) (fun r_29 c_29 => ?_)
          · refine lv_iload_n hx hb dX8_largestVersion_45 rfl (lv_at hl 1 rfl) ?_
            refine lv_istore_n (lv' := [(1, .int (oI (some i))), (2, .int (nI i)), (0, .ref x)]) hx hb dX8_largestVersion_46 rfl hl (by decide) rfl (fun ls hl => ?_)
            refine lv_iinc (v := nI (i + 1)) (lv' := [(2, .int (nI (i + 1))), (1, .int (oI (some i))), (0, .ref x)]) hx hb dX8_largestVersion_47 hl (k := 1) rfl (nI_add _ _) (by decide) rfl (fun ls hl => ?_)
            refine lv_goto (tgt := 9) hx hb dX8_largestVersion_50 (by decide) ?_
            exact ih_9 (i + 1) (some i) _ _ (by omega) (by omega) ((lgV_b c_24 (hlg.symm.trans c_29)).symm) (fun r hr => by cases hr; omega) (lv_sub hl [1, 0, 2] rfl)  hS
          · have hlo := hlr r_29 c_29
            have hll := hW.len (show r_29 < s_nv S by omega)
            refine lv_aload_n hx hb dX8_largestVersion_32 rfl (lv_at hl 2 rfl) ?_
            refine lv_iload_n hx hb dX8_largestVersion_33 rfl (lv_at hl 1 rfl) ?_
            refine mm_rpu (va_runV (As := [.int (nI i)]) (rest := []) ⟨hx, hb, hml, hown, hts⟩ (t_lengthOf l hT hR hW (by first | assumption | omega)) (cwV 1 hts (lw_V q2487 q2489 qs60 q164 q2490) rfl rfl rfl (by decide +kernel) ⟨Nat.le_of_ble_eq_true rfl, Nat.le_of_ble_eq_true rfl⟩) (mm_pV hKK (mm_rc hKK hT.2.1 mm_le.rf rfl)) rfl rfl hl.1 rfl (lv_room (Nat.le_of_ble_eq_true rfl)) dX8_largestVersion_34 ⟨Nat.le_of_ble_eq_true rfl, Nat.le_of_ble_eq_true rfl⟩) hS (mm_s0 hS) (fun L_34 hS => ?_)
            refine lv_aload_n hx hb dX8_largestVersion_37 rfl (lv_at hl 2 rfl) ?_
            refine lv_iload_n hx hb dX8_largestVersion_38 rfl (lv_at hl 0 rfl) ?_
            refine mm_top (y := nI r_29) (oI_some c_29) ?_
            refine mm_rpu (va_runV (As := [.int (nI r_29)]) (rest := [.int (nI (s_len S i))]) ⟨hx, hb, hml, hown, hts⟩ (t_lengthOf l hT hR hW (by first | assumption | omega)) (cwV 1 hts (lw_V q2487 q2489 qs60 q164 q2490) rfl rfl rfl (by decide +kernel) ⟨Nat.le_of_ble_eq_true rfl, Nat.le_of_ble_eq_true rfl⟩) (mm_pV hKK (mm_rc hKK hT.2.1 mm_le.rf rfl)) rfl rfl hl.1 rfl (lv_room (Nat.le_of_ble_eq_true rfl)) dX8_largestVersion_39 ⟨Nat.le_of_ble_eq_true rfl, Nat.le_of_ble_eq_true rfl⟩) hS (mm_s0 hS) (fun L_39 hS => ?_)
            refine mm_icmp_le (tgt := 47) (by omega) (by omega) hx hb dX8_largestVersion_42 (by decide) (fun c_42 => ?_) (fun c_42 => ?_)
            · refine lv_iinc (v := nI (i + 1)) (lv' := [(2, .int (nI (i + 1))), (1, .int (oI o)), (0, .ref x)]) hx hb dX8_largestVersion_47 hl (k := 1) rfl (nI_add _ _) (by decide) rfl (fun ls hl => ?_)
              refine lv_goto (tgt := 9) hx hb dX8_largestVersion_50 (by decide) ?_
              exact ih_9 (i + 1) o _ _ (by omega) (by omega) ((c_29.trans (lgV_d c_24 (hlg.symm.trans c_29) (by omega)).symm)) (fun r hr => by have := hlr _ hr; omega) (lv_sub hl [1, 0, 2] rfl)  hS
            · refine lv_iload_n hx hb dX8_largestVersion_45 rfl (lv_at hl 1 rfl) ?_
              refine lv_istore_n (lv' := [(1, .int (oI (some i))), (2, .int (nI i)), (0, .ref x)]) hx hb dX8_largestVersion_46 rfl hl (by decide) rfl (fun ls hl => ?_)
              refine lv_iinc (v := nI (i + 1)) (lv' := [(2, .int (nI (i + 1))), (1, .int (oI (some i))), (0, .ref x)]) hx hb dX8_largestVersion_47 hl (k := 1) rfl (nI_add _ _) (by decide) rfl (fun ls hl => ?_)
              refine lv_goto (tgt := 9) hx hb dX8_largestVersion_50 (by decide) ?_
              exact ih_9 (i + 1) (some i) _ _ (by omega) (by omega) ((lgV_c c_24 (hlg.symm.trans c_29) (by omega)).symm) (fun r hr => by cases hr; omega) (lv_sub hl [1, 0, 2] rfl)  hS
  exact lp_9 _ 0 none _ _ (Nat.lt_succ_self _) (by omega) (rfl) (fun r hr => by cases hr) (lv_sub hl [1, 0, 2] rfl)  hS
