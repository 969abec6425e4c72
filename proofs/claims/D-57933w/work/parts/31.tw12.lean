/-! the twin: questions of nodes (printed by tools/tw12.py) -/
set_option maxRecDepth 100000 in
theorem t_nodesOf (l : Launch) {G : mm_G} {P : mm_H} {H : Heap} {x : Nat} {ad : Nat → Nat} {I : Nat → Int32} {F : Nat → Nat → Int32} {S : sp_S} {a : Int32} (hT : TW G x ad I F H) (hR : TR (F 0) S) (hW : WF S) (hG : HG S) : Mt l yX8_nodesOf (ws_ yX8_nodesOf cX8_nodesOf 2 (some .int)) 10 600 0 0 G P [.ref x, .int a] H (tw_M x ad) (mm_i (qv (isLv S a) (nI (cB (s_nn S) (fun i => decide (List.count i (tn S a.toNatClampNeg) = 1))))) (fun H2 => ∃ F2, TW G x ad (upd I 6 (ck (inR a (s_nv S)) (isLv S a) true)) F2 H2 ∧ eqx [11] F F2)) := by
  refine Mt.of (by decide) (Nat.le_of_ble_eq_true rfl) (fun p e s m below meth c ls hx hb hr hlk hml hown hnm hts hKK hsH hl hS => ?_)
  have hl : lv_has ls 2 [(0, .ref x), (1, .int a)] := hl
  have hR0 := hR
  have hMx : mm_A (tw_M x ad) H x := Or.inl (Or.inl rfl)
  have hMa : ∀ j, tw_isA j = true → mm_A (tw_M x ad) H (ad j) := fun j hj => Or.inl (Or.inr ⟨j, hj, rfl⟩)
  have hnv := hW.nv
  have hnn := hW.nn
  refine lv_aload_n hx hb dX8_nodesOf_0 rfl (lv_at hl 0 rfl) ?_
  refine lv_iload_n hx hb dX8_nodesOf_1 rfl (lv_at hl 1 rfl) ?_
  refine mm_ri (va_runV (As := [.int a]) (rest := []) ⟨hx, hb, hml, hown, hts⟩ (t_checkLive l hT hR hW) (cwV 1 hts (lw_V q2869 q2871 qs112 q164 q2872) rfl rfl rfl (by decide +kernel) ⟨Nat.le_of_ble_eq_true rfl, Nat.le_of_ble_eq_true rfl⟩) (mm_pV hKK (mm_rc hKK hT.2.1 mm_le.rf rfl)) rfl rfl hl.1 rfl (lv_room (Nat.le_of_ble_eq_true rfl)) dX8_nodesOf_2 ⟨Nat.le_of_ble_eq_true rfl, Nat.le_of_ble_eq_true rfl⟩) hS (mm_sS hS) (fun H_2 L_2 hT hz_2 hq_2 hS => ?_)
  refine mm_ifeqB (tgt := 16) hx hb dX8_nodesOf_5 (by decide) (fun c_5 => ?_) (fun c_5 => ?_)
  · refine lv_iconst (v := nI 0) hx hb dX8_nodesOf_16 (by decide) ?_
    exact mm_iret (v := nI 0) hx hb hr hlk hS (Nat.le_of_ble_eq_true rfl) (Nat.le_of_ble_eq_true rfl) (⟨by rw [qv_f c_5]; rfl, F, hT, eqx.rf⟩) dX8_nodesOf_17
  · obtain ⟨hina, hrla⟩ := isLv_in c_5
    obtain ⟨ja, hja, heja, hcja⟩ := inR_t hina
    rw [heja] at hl
    rw [hcja] at hrla
    refine lv_aload_n hx hb dX8_nodesOf_8 rfl (lv_at hl 0 rfl) ?_
    refine lv_iload_n hx hb dX8_nodesOf_9 rfl (lv_at hl 1 rfl) ?_
    refine mm_ri (va_runV (As := [.int (nI ja)]) (rest := []) ⟨hx, hb, hml, hown, hts⟩ (t_countNodes l hT hR hW hG hja hrla) (cwV 1 hts (lw_V q2929 q2931 qs116 q164 q2932) rfl rfl rfl (by decide +kernel) ⟨Nat.le_of_ble_eq_true rfl, Nat.le_of_ble_eq_true rfl⟩) (mm_pV hKK (mm_rc hKK hT.2.1 mm_le.rf rfl)) rfl rfl hl.1 rfl (lv_room (Nat.le_of_ble_eq_true rfl)) dX8_nodesOf_10 ⟨Nat.le_of_ble_eq_true rfl, Nat.le_of_ble_eq_true rfl⟩) hS (mm_sS hS) (fun H_10 L_10 hB_10 hz_10 hq_10 hS => ?_)
    obtain ⟨F_10, hT, he_10⟩ := hB_10
    refine lv_goto (tgt := 17) hx hb dX8_nodesOf_13 (by decide) ?_
    exact mm_iret (v := nI (cB (s_nn S) (fun i => decide (List.count i (tn S ja) = 1)))) hx hb hr hlk hS (Nat.le_of_ble_eq_true rfl) (Nat.le_of_ble_eq_true rfl) (⟨by rw [qv_t c_5, hcja], F_10, hT, he_10⟩) dX8_nodesOf_17
set_option maxRecDepth 100000 in
theorem t_exclusiveNodes (l : Launch) {G : mm_G} {P : mm_H} {H : Heap} {x : Nat} {ad : Nat → Nat} {I : Nat → Int32} {F : Nat → Nat → Int32} {S : sp_S} {a : Int32} (hT : TW G x ad I F H) (hR : TR (F 0) S) (hW : WF S) (hG : HG S) : Mt l yX8_exclusiveNodes (ws_ yX8_exclusiveNodes cX8_exclusiveNodes 2 (some .int)) 10 600 0 0 G P [.ref x, .int a] H (tw_M x ad) (mm_i (qv (isLv S a) (nI (s_garb (setR S a.toNatClampNeg) - s_garb S))) (fun H2 => ∃ F2, TW G x ad (upd I 6 (ck (inR a (s_nv S)) (isLv S a) true)) F2 H2 ∧ eqx [0, 11] F F2 ∧ TR (F2 0) S)) := by
  refine Mt.of (by decide) (Nat.le_of_ble_eq_true rfl) (fun p e s m below meth c ls hx hb hr hlk hml hown hnm hts hKK hsH hl hS => ?_)
  have hl : lv_has ls 2 [(0, .ref x), (1, .int a)] := hl
  have hR0 := hR
  have hMx : mm_A (tw_M x ad) H x := Or.inl (Or.inl rfl)
  have hMa : ∀ j, tw_isA j = true → mm_A (tw_M x ad) H (ad j) := fun j hj => Or.inl (Or.inr ⟨j, hj, rfl⟩)
  have hnv := hW.nv
  have hnn := hW.nn
  refine lv_aload_n hx hb dX8_exclusiveNodes_0 rfl (lv_at hl 0 rfl) ?_
  refine lv_iload_n hx hb dX8_exclusiveNodes_1 rfl (lv_at hl 1 rfl) ?_
  refine mm_ri (va_runV (As := [.int a]) (rest := []) ⟨hx, hb, hml, hown, hts⟩ (t_checkLive l hT hR hW) (cwV 1 hts (lw_V q2869 q2871 qs112 q164 q2872) rfl rfl rfl (by decide +kernel) ⟨Nat.le_of_ble_eq_true rfl, Nat.le_of_ble_eq_true rfl⟩) (mm_pV hKK (mm_rc hKK hT.2.1 mm_le.rf rfl)) rfl rfl hl.1 rfl (lv_room (Nat.le_of_ble_eq_true rfl)) dX8_exclusiveNodes_2 ⟨Nat.le_of_ble_eq_true rfl, Nat.le_of_ble_eq_true rfl⟩) hS (mm_sS hS) (fun H_2 L_2 hT hz_2 hq_2 hS => ?_)
  refine mm_ifeqB (tgt := 16) hx hb dX8_exclusiveNodes_5 (by decide) (fun c_5 => ?_) (fun c_5 => ?_)
  · refine lv_iconst (v := nI 0) hx hb dX8_exclusiveNodes_16 (by decide) ?_
    exact mm_iret (v := nI 0) hx hb hr hlk hS (Nat.le_of_ble_eq_true rfl) (Nat.le_of_ble_eq_true rfl) (⟨by rw [qv_f c_5]; rfl, F, hT, eqx.rf, hR⟩) dX8_exclusiveNodes_17
  · obtain ⟨hina, hrla⟩ := isLv_in c_5
    obtain ⟨ja, hja, heja, hcja⟩ := inR_t hina
    rw [heja] at hl
    rw [hcja] at hrla
    refine lv_aload_n hx hb dX8_exclusiveNodes_8 rfl (lv_at hl 0 rfl) ?_
    refine lv_iload_n hx hb dX8_exclusiveNodes_9 rfl (lv_at hl 1 rfl) ?_
    refine mm_ri (va_runV (As := [.int (nI ja)]) (rest := []) ⟨hx, hb, hml, hown, hts⟩ (t_countExclusive l hT hR hW hG hja hrla) (cwV 1 hts (lw_V q2949 q2951 qs119 q164 q2952) rfl rfl rfl (by decide +kernel) ⟨Nat.le_of_ble_eq_true rfl, Nat.le_of_ble_eq_true rfl⟩) (mm_pV hKK (mm_rc hKK hT.2.1 mm_le.rf rfl)) rfl rfl hl.1 rfl (lv_room (Nat.le_of_ble_eq_true rfl)) dX8_exclusiveNodes_10 ⟨Nat.le_of_ble_eq_true rfl, Nat.le_of_ble_eq_true rfl⟩) hS (mm_sS hS) (fun H_10 L_10 hB_10 hz_10 hq_10 hS => ?_)
    obtain ⟨F_10, hT, he_10, hR⟩ := hB_10
    refine lv_goto (tgt := 17) hx hb dX8_exclusiveNodes_13 (by decide) ?_
    exact mm_iret (v := nI (s_garb (setR S ja) - s_garb S)) hx hb hr hlk hS (Nat.le_of_ble_eq_true rfl) (Nat.le_of_ble_eq_true rfl) (⟨by rw [qv_t c_5, hcja], F_10, hT, he_10, hR⟩) dX8_exclusiveNodes_17
set_option maxRecDepth 100000 in
theorem t_garbageIfReleased (l : Launch) {G : mm_G} {P : mm_H} {H : Heap} {x : Nat} {ad : Nat → Nat} {I : Nat → Int32} {F : Nat → Nat → Int32} {S : sp_S} {a : Int32} (hT : TW G x ad I F H) (hR : TR (F 0) S) (hW : WF S) (hG : HG S) : Mt l yX8_garbageIfReleased (ws_ yX8_garbageIfReleased cX8_garbageIfReleased 2 (some .int)) 10 600 0 0 G P [.ref x, .int a] H (tw_M x ad) (mm_i (qv (isLv S a) (nI (s_garb (setR S a.toNatClampNeg) - s_garb S))) (fun H2 => ∃ F2, TW G x ad (upd I 6 (ck (inR a (s_nv S)) (isLv S a) true)) F2 H2 ∧ eqx [0, 11] F F2 ∧ TR (F2 0) S)) := by
  refine Mt.of (by decide) (Nat.le_of_ble_eq_true rfl) (fun p e s m below meth c ls hx hb hr hlk hml hown hnm hts hKK hsH hl hS => ?_)
  have hl : lv_has ls 2 [(0, .ref x), (1, .int a)] := hl
  have hR0 := hR
  have hMx : mm_A (tw_M x ad) H x := Or.inl (Or.inl rfl)
  have hMa : ∀ j, tw_isA j = true → mm_A (tw_M x ad) H (ad j) := fun j hj => Or.inl (Or.inr ⟨j, hj, rfl⟩)
  have hnv := hW.nv
  have hnn := hW.nn
  refine lv_aload_n hx hb dX8_garbageIfReleased_0 rfl (lv_at hl 0 rfl) ?_
  refine lv_iload_n hx hb dX8_garbageIfReleased_1 rfl (lv_at hl 1 rfl) ?_
  refine mm_ri (va_runV (As := [.int a]) (rest := []) ⟨hx, hb, hml, hown, hts⟩ (t_checkLive l hT hR hW) (cwV 1 hts (lw_V q2869 q2871 qs112 q164 q2872) rfl rfl rfl (by decide +kernel) ⟨Nat.le_of_ble_eq_true rfl, Nat.le_of_ble_eq_true rfl⟩) (mm_pV hKK (mm_rc hKK hT.2.1 mm_le.rf rfl)) rfl rfl hl.1 rfl (lv_room (Nat.le_of_ble_eq_true rfl)) dX8_garbageIfReleased_2 ⟨Nat.le_of_ble_eq_true rfl, Nat.le_of_ble_eq_true rfl⟩) hS (mm_sS hS) (fun H_2 L_2 hT hz_2 hq_2 hS => ?_)
  refine mm_ifeqB (tgt := 16) hx hb dX8_garbageIfReleased_5 (by decide) (fun c_5 => ?_) (fun c_5 => ?_)
  · refine lv_iconst (v := nI 0) hx hb dX8_garbageIfReleased_16 (by decide) ?_
    exact mm_iret (v := nI 0) hx hb hr hlk hS (Nat.le_of_ble_eq_true rfl) (Nat.le_of_ble_eq_true rfl) (⟨by rw [qv_f c_5]; rfl, F, hT, eqx.rf, hR⟩) dX8_garbageIfReleased_17
  · obtain ⟨hina, hrla⟩ := isLv_in c_5
    obtain ⟨ja, hja, heja, hcja⟩ := inR_t hina
    rw [heja] at hl
    rw [hcja] at hrla
    refine lv_aload_n hx hb dX8_garbageIfReleased_8 rfl (lv_at hl 0 rfl) ?_
    refine lv_iload_n hx hb dX8_garbageIfReleased_9 rfl (lv_at hl 1 rfl) ?_
    refine mm_ri (va_runV (As := [.int (nI ja)]) (rest := []) ⟨hx, hb, hml, hown, hts⟩ (t_countExclusive l hT hR hW hG hja hrla) (cwV 1 hts (lw_V q2949 q2951 qs119 q164 q2952) rfl rfl rfl (by decide +kernel) ⟨Nat.le_of_ble_eq_true rfl, Nat.le_of_ble_eq_true rfl⟩) (mm_pV hKK (mm_rc hKK hT.2.1 mm_le.rf rfl)) rfl rfl hl.1 rfl (lv_room (Nat.le_of_ble_eq_true rfl)) dX8_garbageIfReleased_10 ⟨Nat.le_of_ble_eq_true rfl, Nat.le_of_ble_eq_true rfl⟩) hS (mm_sS hS) (fun H_10 L_10 hB_10 hz_10 hq_10 hS => ?_)
    obtain ⟨F_10, hT, he_10, hR⟩ := hB_10
    refine lv_goto (tgt := 17) hx hb dX8_garbageIfReleased_13 (by decide) ?_
    exact mm_iret (v := nI (s_garb (setR S ja) - s_garb S)) hx hb hr hlk hS (Nat.le_of_ble_eq_true rfl) (Nat.le_of_ble_eq_true rfl) (⟨by rw [qv_t c_5, hcja], F_10, hT, he_10, hR⟩) dX8_garbageIfReleased_17
set_option maxRecDepth 100000 in
theorem t_sharedNodes (l : Launch) {G : mm_G} {P : mm_H} {H : Heap} {x : Nat} {ad : Nat → Nat} {I : Nat → Int32} {F : Nat → Nat → Int32} {S : sp_S} {a b : Int32} (hT : TW G x ad I F H) (hR : TR (F 0) S) (hW : WF S) (hG : HG S) : Mt l yX8_sharedNodes (ws_ yX8_sharedNodes cX8_sharedNodes 3 (some .int)) 10 600 0 0 G P [.ref x, .int a, .int b] H (tw_M x ad) (mm_i (qv (is2 S a b) (nI (cB (s_nn S) (fun i => decide (List.count i (tn S a.toNatClampNeg) + List.count i (tn S b.toNatClampNeg) = 2))))) (fun H2 => ∃ F2, TW G x ad (upd I 6 (ck (inR a (s_nv S) && inR b (s_nv S)) (is2 S a b) true)) F2 H2 ∧ eqx [11] F F2)) := by
  refine Mt.of (by decide) (Nat.le_of_ble_eq_true rfl) (fun p e s m below meth c ls hx hb hr hlk hml hown hnm hts hKK hsH hl hS => ?_)
  have hl : lv_has ls 3 [(0, .ref x), (1, .int a), (2, .int b)] := hl
  have hR0 := hR
  have hMx : mm_A (tw_M x ad) H x := Or.inl (Or.inl rfl)
  have hMa : ∀ j, tw_isA j = true → mm_A (tw_M x ad) H (ad j) := fun j hj => Or.inl (Or.inr ⟨j, hj, rfl⟩)
  have hnv := hW.nv
  have hnn := hW.nn
  refine lv_aload_n hx hb dX8_sharedNodes_0 rfl (lv_at hl 0 rfl) ?_
  refine lv_iload_n hx hb dX8_sharedNodes_1 rfl (lv_at hl 1 rfl) ?_
  refine lv_iload_n hx hb dX8_sharedNodes_2 rfl (lv_at hl 2 rfl) ?_
  refine mm_ri (va_runV (As := [.int a, .int b]) (rest := []) ⟨hx, hb, hml, hown, hts⟩ (t_checkTwo l hT hR hW) (cwV 2 hts (lw_V q2941 q2943 qs118 q164 q2944) rfl rfl rfl (by decide +kernel) ⟨Nat.le_of_ble_eq_true rfl, Nat.le_of_ble_eq_true rfl⟩) (mm_pV hKK (mm_rc hKK hT.2.1 mm_le.rf rfl)) rfl rfl hl.1 rfl (lv_room (Nat.le_of_ble_eq_true rfl)) dX8_sharedNodes_3 ⟨Nat.le_of_ble_eq_true rfl, Nat.le_of_ble_eq_true rfl⟩) hS (mm_sS hS) (fun H_3 L_3 hT hz_3 hq_3 hS => ?_)
  refine mm_ifneB (tgt := 11) hx hb dX8_sharedNodes_6 (by decide) (fun c_6 => ?_) (fun c_6 => ?_)
  · obtain ⟨hina, hinb, hrla, hrlb⟩ := is2_in c_6
    obtain ⟨ja, hja, heja, hcja⟩ := inR_t hina
    rw [heja] at hl
    obtain ⟨jb, hjb, hejb, hcjb⟩ := inR_t hinb
    rw [hejb] at hl
    rw [hcja] at hrla; rw [hcjb] at hrlb
    have hfa := hf_le (s_len S ja)
    have hfb := hf_le (s_len S jb)
    have hla := hG.tn_len hW hja hrla
    have hlb := hG.tn_len hW hjb hrlb
    refine lv_aload_n hx hb dX8_sharedNodes_11 rfl (lv_at hl 0 rfl) ?_
    refine mm_rv (va_runV (As := []) (rest := []) ⟨hx, hb, hml, hown, hts⟩ (t_clearReached l hT) (cwV 0 hts (lw_V q2809 q2811 qs105 q164 q2812) rfl rfl rfl (by decide +kernel) ⟨Nat.le_of_ble_eq_true rfl, Nat.le_of_ble_eq_true rfl⟩) (mm_pV hKK (mm_rc hKK hT.2.1 mm_le.rf rfl)) rfl rfl hl.1 rfl (lv_room (Nat.le_of_ble_eq_true rfl)) dX8_sharedNodes_12 ⟨Nat.le_of_ble_eq_true rfl, Nat.le_of_ble_eq_true rfl⟩) hS (mm_sS hS) (fun H_12 L_12 hB_12 hz_12 hq_12 hS => ?_)
    obtain ⟨F_12, hT, he_12, h0_12⟩ := hB_12
    have hR := TRx he_12 (by decide) hR
    refine lv_aload_n hx hb dX8_sharedNodes_15 rfl (lv_at hl 0 rfl) ?_
    refine lv_aload_n hx hb dX8_sharedNodes_16 rfl (lv_at hl 0 rfl) ?_
    refine lv_iload_n hx hb dX8_sharedNodes_17 rfl (lv_at hl 1 rfl) ?_
    refine mm_rpu (va_runV (As := [.int (nI ja)]) (rest := [.ref x]) ⟨hx, hb, hml, hown, hts⟩ (t_root l hT hR hW (by first | assumption | omega)) (cwV 1 hts (lw_V q2729 q2731 qs85 q164 q2732) rfl rfl rfl (by decide +kernel) ⟨Nat.le_of_ble_eq_true rfl, Nat.le_of_ble_eq_true rfl⟩) (mm_pV hKK (mm_rc hKK hT.2.1 mm_le.rf rfl)) rfl rfl hl.1 rfl (lv_room (Nat.le_of_ble_eq_true rfl)) dX8_sharedNodes_18 ⟨Nat.le_of_ble_eq_true rfl, Nat.le_of_ble_eq_true rfl⟩) hS (mm_s0 hS) (fun L_18 hS => ?_)
    refine mm_rv (va_runV (As := [.int (oI (s_root S ja))]) (rest := []) ⟨hx, hb, hml, hown, hts⟩ (t_reach l (hf (s_len S ja)) hT hR hW (hG ja hja hrla)) (cwV 1 hts (lw_V q2813 q2815 qs106 q164 q2816) rfl rfl rfl (by decide +kernel) ⟨by simp only [mm_rm]; omega, by simp only [mm_rm]; omega⟩) (mm_pV hKK (mm_rc hKK hT.2.1 mm_le.rf rfl)) rfl rfl hl.1 rfl (lv_room (Nat.le_of_ble_eq_true rfl)) dX8_sharedNodes_21 ⟨Nat.le_of_ble_eq_true rfl, Nat.le_of_ble_eq_true rfl⟩) hS (mm_sS hS) (fun H_21 L_21 hB_21 hz_21 hq_21 hS => ?_)
    obtain ⟨F_21, hT, he_21, h11_21⟩ := hB_21
    have hR := TRx he_21 (by decide) hR
    refine lv_aload_n hx hb dX8_sharedNodes_24 rfl (lv_at hl 0 rfl) ?_
    refine lv_aload_n hx hb dX8_sharedNodes_25 rfl (lv_at hl 0 rfl) ?_
    refine lv_iload_n hx hb dX8_sharedNodes_26 rfl (lv_at hl 2 rfl) ?_
    refine mm_rpu (va_runV (As := [.int (nI jb)]) (rest := [.ref x]) ⟨hx, hb, hml, hown, hts⟩ (t_root l hT hR hW (by first | assumption | omega)) (cwV 1 hts (lw_V q2729 q2731 qs85 q164 q2732) rfl rfl rfl (by decide +kernel) ⟨Nat.le_of_ble_eq_true rfl, Nat.le_of_ble_eq_true rfl⟩) (mm_pV hKK (mm_rc hKK hT.2.1 mm_le.rf rfl)) rfl rfl hl.1 rfl (lv_room (Nat.le_of_ble_eq_true rfl)) dX8_sharedNodes_27 ⟨Nat.le_of_ble_eq_true rfl, Nat.le_of_ble_eq_true rfl⟩) hS (mm_s0 hS) (fun L_27 hS => ?_)
    refine mm_rv (va_runV (As := [.int (oI (s_root S jb))]) (rest := []) ⟨hx, hb, hml, hown, hts⟩ (t_reach l (hf (s_len S jb)) hT hR hW (hG jb hjb hrlb)) (cwV 1 hts (lw_V q2813 q2815 qs106 q164 q2816) rfl rfl rfl (by decide +kernel) ⟨by simp only [mm_rm]; omega, by simp only [mm_rm]; omega⟩) (mm_pV hKK (mm_rc hKK hT.2.1 mm_le.rf rfl)) rfl rfl hl.1 rfl (lv_room (Nat.le_of_ble_eq_true rfl)) dX8_sharedNodes_30 ⟨Nat.le_of_ble_eq_true rfl, Nat.le_of_ble_eq_true rfl⟩) hS (mm_sS hS) (fun H_30 L_30 hB_30 hz_30 hq_30 hS => ?_)
    obtain ⟨F_30, hT, he_30, h11_30⟩ := hB_30
    have hR := TRx he_30 (by decide) hR
    have hq : ∀ i, i < 200 → F_30 11 i = nI (List.count i (tn S ja) + List.count i (tn S jb)) ∧ List.count i (tn S ja) + List.count i (tn S jb) < 2 ^ 31 := fun i hi => ⟨by rw [h11_30 i hi, h11_21 i hi, h0_12 i hi, nI_add, nI_add, Nat.zero_add, hG.tne hja hrla, hG.tne hjb hrlb], by have h1 := List.count_le_length (a := i) (l := tn S ja); have h2 := List.count_le_length (a := i) (l := tn S jb); omega⟩
    refine lv_aload_n hx hb dX8_sharedNodes_33 rfl (lv_at hl 0 rfl) ?_
    refine lv_iconst (v := nI 2) hx hb dX8_sharedNodes_34 (by decide) ?_
    refine mm_rpu (va_runV (As := [.int (nI 2)]) (rest := []) ⟨hx, hb, hml, hown, hts⟩ (t_countReached l (q := fun i => List.count i (tn S ja) + List.count i (tn S jb)) hT hR hW (by omega) hq) (cwV 1 hts (lw_V q2933 q2935 qs117 q164 q2936) rfl rfl rfl (by decide +kernel) ⟨Nat.le_of_ble_eq_true rfl, Nat.le_of_ble_eq_true rfl⟩) (mm_pV hKK (mm_rc hKK hT.2.1 mm_le.rf rfl)) rfl rfl hl.1 rfl (lv_room (Nat.le_of_ble_eq_true rfl)) dX8_sharedNodes_35 ⟨Nat.le_of_ble_eq_true rfl, Nat.le_of_ble_eq_true rfl⟩) hS (mm_s0 hS) (fun L_35 hS => ?_)
    exact mm_iret (v := nI (cB (s_nn S) (fun i => decide (List.count i (tn S ja) + List.count i (tn S jb) = 2)))) hx hb hr hlk hS (Nat.le_of_ble_eq_true rfl) (Nat.le_of_ble_eq_true rfl) (⟨by rw [qv_t c_6, hcja, hcjb], F_30, hT, he_12.tr (he_21.tr he_30)⟩) dX8_sharedNodes_38
  · refine lv_iconst (v := nI 0) hx hb dX8_sharedNodes_9 (by decide) ?_
    exact mm_iret (v := nI 0) hx hb hr hlk hS (Nat.le_of_ble_eq_true rfl) (Nat.le_of_ble_eq_true rfl) (⟨by rw [qv_f c_6]; rfl, F, hT, eqx.rf⟩) dX8_sharedNodes_10
set_option maxRecDepth 100000 in
theorem t_referencesTo (l : Launch) {G : mm_G} {P : mm_H} {H : Heap} {x : Nat} {ad : Nat → Nat} {I : Nat → Int32} {F : Nat → Nat → Int32} {S : sp_S} {a : Int32} (hT : TW G x ad I F H) (hR : TR (F 0) S) (hW : WF S) : Mt l yX8_referencesTo (ws_ yX8_referencesTo cX8_referencesTo 4 (some .int)) 8 400 0 0 G P [.ref x, .int a] H (tw_M x ad) (mm_i (qv (isSt S a) (nI (cB (s_nv S) (fun v => !s_rel S v && decide (s_root S v = some a.toNatClampNeg)) + cB (s_nn S) (fun o => hsC S o a.toNatClampNeg)))) (fun H2 => TW G x ad (upd I 6 (ck (isSt S a) true true)) F H2)) := by
  refine Mt.of (by decide) (Nat.le_of_ble_eq_true rfl) (fun p e s m below meth c ls hx hb hr hlk hml hown hnm hts hKK hsH hl hS => ?_)
  have hl : lv_has ls 4 [(0, .ref x), (1, .int a)] := hl
  have hR0 := hR
  have hMx : mm_A (tw_M x ad) H x := Or.inl (Or.inl rfl)
  have hMa : ∀ j, tw_isA j = true → mm_A (tw_M x ad) H (ad j) := fun j hj => Or.inl (Or.inr ⟨j, hj, rfl⟩)
  have hnv := hW.nv
  have hnn := hW.nn
  refine lv_aload_n hx hb dX8_referencesTo_0 rfl (lv_at hl 0 rfl) ?_
  refine lv_iload_n hx hb dX8_referencesTo_1 rfl (lv_at hl 1 rfl) ?_
  refine mm_ri (va_runV (As := [.int a]) (rest := []) ⟨hx, hb, hml, hown, hts⟩ (t_checkNode l hT hR hW) (cwV 1 hts (lw_V q2961 q2963 qs121 q164 q2964) rfl rfl rfl (by decide +kernel) ⟨Nat.le_of_ble_eq_true rfl, Nat.le_of_ble_eq_true rfl⟩) (mm_pV hKK (mm_rc hKK hT.2.1 mm_le.rf rfl)) rfl rfl hl.1 rfl (lv_room (Nat.le_of_ble_eq_true rfl)) dX8_referencesTo_2 ⟨Nat.le_of_ble_eq_true rfl, Nat.le_of_ble_eq_true rfl⟩) hS (mm_sS hS) (fun H_2 L_2 hT hz_2 hq_2 hS => ?_)
  refine mm_ifneB (tgt := 10) hx hb dX8_referencesTo_5 (by decide) (fun c_5 => ?_) (fun c_5 => ?_)
  · obtain ⟨hina, hsta⟩ := isSt_in c_5
    obtain ⟨ja, hja, heja, hcja⟩ := inR_t hina
    rw [heja] at hl
    rw [hcja] at hsta
    refine lv_iconst (v := nI 0) hx hb dX8_referencesTo_10 (by decide) ?_
    refine lv_istore_n (lv' := [(2, .int (nI 0)), (0, .ref x), (1, .int (nI ja))]) hx hb dX8_referencesTo_11 rfl hl (by decide) rfl (fun ls hl => ?_)
    refine lv_iconst (v := nI 0) hx hb dX8_referencesTo_12 (by decide) ?_
    refine lv_istore_n (lv' := [(3, .int (nI 0)), (2, .int (nI 0)), (0, .ref x), (1, .int (nI ja))]) hx hb dX8_referencesTo_13 rfl hl (by decide) rfl (fun ls hl => ?_)
    have lp_14 : ∀ (fu : Nat) (i : Nat)  (L : List Loc) (ls : Array Slot), s_nv S - i < fu → (i ≤ s_nv S) → lv_has ls 4 [(2, .int (nI (cB i (fun v => !s_rel S v && decide (s_root S v = some ja))))), (3, .int (nI i)), (0, .ref x), (1, .int (nI ja))] → va_S (mm_A (tw_M x ad) H) H H_2 L → W p l e (mm_rm 8 400 0 0) s m ([.ref x, .int a] : List Value).toArray below meth c H_2 L 0 0 (MQ below (mm_Qc H (tw_M x ad) (mm_i (qv (isSt S a) (nI (cB (s_nv S) (fun v => !s_rel S v && decide (s_root S v = some a.toNatClampNeg)) + cB (s_nn S) (fun o => hsC S o a.toNatClampNeg)))) (fun H2 => TW G x ad (upd I 6 (ck (isSt S a) true true)) F H2))) ([.ref x, .int a] : List Value).toArray s 0 0 (mm_A (tw_M x ad) H)) (F0 m 14 ls []) := by
      intro fu; induction fu with
      | zero => intro i L ls hfu; exact absurd hfu (Nat.not_lt_zero _)
      | succ fu ih =>
        intro i L ls hfu hi hl  hS
        have ih_14 := ih
        refine lv_iload_n hx hb dX8_referencesTo_14 rfl (lv_at hl 1 rfl) ?_
        refine lv_aload_n hx hb dX8_referencesTo_15 rfl (lv_at hl 2 rfl) ?_
        refine tw_geta 0 hx hb hts hown hKK hT rfl rfl (hts _ q2498) dX8_referencesTo_16 ?_
        refine lv_iconst (v := nI 0) hx hb dX8_referencesTo_19 (by decide) ?_
        refine mm_iald (k := 0) hx hb hKK (hT.2.2 0 rfl) mm_le.rf (by show _ < 4210; omega) (by decide) dX8_referencesTo_20 ?_
        refine mm_top (y := nI (s_nv S)) (hR.nv) ?_
        refine mm_icmp_ge (tgt := 58) (by omega) (by omega) hx hb dX8_referencesTo_21 (by decide) (fun c_21 => ?_) (fun c_21 => ?_)
        · have hcv : cB i (fun v => !s_rel S v && decide (s_root S v = some ja)) = cB (s_nv S) (fun v => !s_rel S v && decide (s_root S v = some ja)) := by rw [show i = s_nv S by omega]
          rw [hcv] at hl
          refine lv_iconst (v := nI 0) hx hb dX8_referencesTo_58 (by decide) ?_
          refine lv_istore_n (lv' := [(3, .int (nI 0)), (2, .int (nI (cB (s_nv S) (fun v => !s_rel S v && decide (s_root S v = some ja))))), (0, .ref x), (1, .int (nI ja))]) hx hb dX8_referencesTo_59 rfl hl (by decide) rfl (fun ls hl => ?_)
          have lp_60 : ∀ (fu : Nat) (i : Nat)  (L : List Loc) (ls : Array Slot), s_nn S - i < fu → (i ≤ s_nn S) → lv_has ls 4 [(2, .int (nI (cB (s_nv S) (fun v => !s_rel S v && decide (s_root S v = some ja)) + cB i (fun o => hsC S o ja)))), (3, .int (nI i)), (0, .ref x), (1, .int (nI ja))] → va_S (mm_A (tw_M x ad) H) H H_2 L → W p l e (mm_rm 8 400 0 0) s m ([.ref x, .int a] : List Value).toArray below meth c H_2 L 0 0 (MQ below (mm_Qc H (tw_M x ad) (mm_i (qv (isSt S a) (nI (cB (s_nv S) (fun v => !s_rel S v && decide (s_root S v = some a.toNatClampNeg)) + cB (s_nn S) (fun o => hsC S o a.toNatClampNeg)))) (fun H2 => TW G x ad (upd I 6 (ck (isSt S a) true true)) F H2))) ([.ref x, .int a] : List Value).toArray s 0 0 (mm_A (tw_M x ad) H)) (F0 m 60 ls []) := by
            intro fu; induction fu with
            | zero => intro i L ls hfu; exact absurd hfu (Nat.not_lt_zero _)
            | succ fu ih =>
              intro i L ls hfu hi hl  hS
              have ih_60 := ih
              refine lv_iload_n hx hb dX8_referencesTo_60 rfl (lv_at hl 1 rfl) ?_
              refine lv_aload_n hx hb dX8_referencesTo_61 rfl (lv_at hl 2 rfl) ?_
              refine tw_geta 0 hx hb hts hown hKK hT rfl rfl (hts _ q2498) dX8_referencesTo_62 ?_
              refine lv_iconst (v := nI 1) hx hb dX8_referencesTo_65 (by decide) ?_
              refine mm_iald (k := 1) hx hb hKK (hT.2.2 0 rfl) mm_le.rf (by show _ < 4210; omega) (by decide) dX8_referencesTo_66 ?_
              refine mm_top (y := nI (s_nn S)) (hR.nn) ?_
              refine mm_icmp_ge (tgt := 88) (by omega) (by omega) hx hb dX8_referencesTo_67 (by decide) (fun c_67 => ?_) (fun c_67 => ?_)
              · refine lv_iload_n hx hb dX8_referencesTo_88 rfl (lv_at hl 0 rfl) ?_
                exact mm_iret (v := nI (cB (s_nv S) (fun v => !s_rel S v && decide (s_root S v = some ja)) + cB i (fun o => hsC S o ja))) hx hb hr hlk hS (Nat.le_of_ble_eq_true rfl) (Nat.le_of_ble_eq_true rfl) (⟨by rw [qv_t c_5, hcja, show s_nn S = i by omega], hT⟩) dX8_referencesTo_89
              · refine lv_iload_n hx hb dX8_referencesTo_70 rfl (lv_at hl 0 rfl) ?_
                refine lv_aload_n hx hb dX8_referencesTo_71 rfl (lv_at hl 2 rfl) ?_
                refine lv_iload_n hx hb dX8_referencesTo_72 rfl (lv_at hl 1 rfl) ?_
                refine lv_iload_n hx hb dX8_referencesTo_73 rfl (lv_at hl 3 rfl) ?_
                refine mm_rpu (va_runV (As := [.int (nI i), .int (nI ja)]) (rest := [.int (nI (cB (s_nv S) (fun v => !s_rel S v && decide (s_root S v = some ja)) + cB i (fun o => hsC S o ja)))]) ⟨hx, hb, hml, hown, hts⟩ (t_hasChild l hT hR hW (by first | assumption | omega) (by first | assumption | omega)) (cwV 2 hts (lw_V q2977 q2979 qs122 q164 q2980) rfl rfl rfl (by decide +kernel) ⟨Nat.le_of_ble_eq_true rfl, Nat.le_of_ble_eq_true rfl⟩) (mm_pV hKK (mm_rc hKK hT.2.1 mm_le.rf rfl)) rfl rfl hl.1 rfl (lv_room (Nat.le_of_ble_eq_true rfl)) dX8_referencesTo_74 ⟨Nat.le_of_ble_eq_true rfl, Nat.le_of_ble_eq_true rfl⟩) hS (mm_s0 hS) (fun L_74 hS => ?_)
                refine mm_rpu (va_runS (As := [.int (mm_b (hsC S i ja))]) (rest := [.int (nI (cB (s_nv S) (fun v => !s_rel S v && decide (s_root S v = some ja)) + cB i (fun o => hsC S o ja)))]) ⟨hx, hb, hml, hown, hts⟩ (t_one l ) (va_cwS 1 hts (lw_S q2467 q2468 q164 q2469) rfl rfl rfl (by decide +kernel) ⟨Nat.le_of_ble_eq_true rfl, Nat.le_of_ble_eq_true rfl⟩) (mm_pS hKK) rfl rfl hl.1 rfl (lv_room (Nat.le_of_ble_eq_true rfl)) dX8_referencesTo_77 ⟨Nat.le_of_ble_eq_true rfl, Nat.le_of_ble_eq_true rfl⟩) hS (mm_s0 hS) (fun L_77 hS => ?_)
                refine lv_iadd hx hb dX8_referencesTo_80 ?_
                refine mm_top (mm_iB _ _) ?_
                refine mm_top (y := nI (cB (s_nv S) (fun v => !s_rel S v && decide (s_root S v = some ja)) + cB (i + 1) (fun o => hsC S o ja))) (congrArg nI (by rw [cB_succ, Nat.add_assoc])) ?_
                refine lv_istore_n (lv' := [(2, .int (nI (cB (s_nv S) (fun v => !s_rel S v && decide (s_root S v = some ja)) + cB (i + 1) (fun o => hsC S o ja)))), (3, .int (nI i)), (0, .ref x), (1, .int (nI ja))]) hx hb dX8_referencesTo_81 rfl hl (by decide) rfl (fun ls hl => ?_)
                refine lv_iinc (v := nI (i + 1)) (lv' := [(3, .int (nI (i + 1))), (2, .int (nI (cB (s_nv S) (fun v => !s_rel S v && decide (s_root S v = some ja)) + cB (i + 1) (fun o => hsC S o ja)))), (0, .ref x), (1, .int (nI ja))]) hx hb dX8_referencesTo_82 hl (k := 1) rfl (nI_add _ _) (by decide) rfl (fun ls hl => ?_)
                refine lv_goto (tgt := 60) hx hb dX8_referencesTo_85 (by decide) ?_
                exact ih_60 (i + 1) _ _ (by omega) (by omega) (lv_sub hl [1, 0, 2, 3] rfl)  hS
          exact lp_60 _ 0 _ _ (Nat.lt_succ_self _) (by omega) (lv_sub hl [1, 0, 2, 3] rfl)  hS
        · refine lv_iload_n hx hb dX8_referencesTo_24 rfl (lv_at hl 0 rfl) ?_
          refine lv_aload_n hx hb dX8_referencesTo_25 rfl (lv_at hl 2 rfl) ?_
          refine lv_iload_n hx hb dX8_referencesTo_26 rfl (lv_at hl 1 rfl) ?_
          refine mm_rpu (va_runV (As := [.int (nI i)]) (rest := [.int (nI (cB i (fun v => !s_rel S v && decide (s_root S v = some ja))))]) ⟨hx, hb, hml, hown, hts⟩ (t_isGone l hT hR hW (by first | assumption | omega)) (cwV 1 hts (lw_V q2717 q2719 qs82 q164 q2720) rfl rfl rfl (by decide +kernel) ⟨Nat.le_of_ble_eq_true rfl, Nat.le_of_ble_eq_true rfl⟩) (mm_pV hKK (mm_rc hKK hT.2.1 mm_le.rf rfl)) rfl rfl hl.1 rfl (lv_room (Nat.le_of_ble_eq_true rfl)) dX8_referencesTo_27 ⟨Nat.le_of_ble_eq_true rfl, Nat.le_of_ble_eq_true rfl⟩) hS (mm_s0 hS) (fun L_27 hS => ?_)
          refine mm_ifneB (tgt := 46) hx hb dX8_referencesTo_30 (by decide) (fun c_30 => ?_) (fun c_30 => ?_)
          · refine lv_iconst (v := nI 0) hx hb dX8_referencesTo_46 (by decide) ?_
            refine mm_top (y := mm_b false) rfl ?_
            refine mm_rpu (va_runS (As := [.int (mm_b false)]) (rest := [.int (nI (cB i (fun v => !s_rel S v && decide (s_root S v = some ja))))]) ⟨hx, hb, hml, hown, hts⟩ (t_one l ) (va_cwS 1 hts (lw_S q2467 q2468 q164 q2469) rfl rfl rfl (by decide +kernel) ⟨Nat.le_of_ble_eq_true rfl, Nat.le_of_ble_eq_true rfl⟩) (mm_pS hKK) rfl rfl hl.1 rfl (lv_room (Nat.le_of_ble_eq_true rfl)) dX8_referencesTo_47 ⟨Nat.le_of_ble_eq_true rfl, Nat.le_of_ble_eq_true rfl⟩) hS (mm_s0 hS) (fun L_47 hS => ?_)
            refine lv_iadd hx hb dX8_referencesTo_50 ?_
            refine mm_top (mm_iB _ _) ?_
            refine mm_top (y := nI (cB (i + 1) (fun v => !s_rel S v && decide (s_root S v = some ja)))) (congrArg nI (by rw [cB_succ]; simp [c_30])) ?_
            refine lv_istore_n (lv' := [(2, .int (nI (cB (i + 1) (fun v => !s_rel S v && decide (s_root S v = some ja))))), (3, .int (nI i)), (0, .ref x), (1, .int (nI ja))]) hx hb dX8_referencesTo_51 rfl hl (by decide) rfl (fun ls hl => ?_)
            refine lv_iinc (v := nI (i + 1)) (lv' := [(3, .int (nI (i + 1))), (2, .int (nI (cB (i + 1) (fun v => !s_rel S v && decide (s_root S v = some ja))))), (0, .ref x), (1, .int (nI ja))]) hx hb dX8_referencesTo_52 hl (k := 1) rfl (nI_add _ _) (by decide) rfl (fun ls hl => ?_)
            refine lv_goto (tgt := 14) hx hb dX8_referencesTo_55 (by decide) ?_
            exact ih_14 (i + 1) _ _ (by omega) (by omega) (lv_sub hl [1, 0, 2, 3] rfl)  hS
          · refine lv_aload_n hx hb dX8_referencesTo_33 rfl (lv_at hl 2 rfl) ?_
            refine lv_iload_n hx hb dX8_referencesTo_34 rfl (lv_at hl 1 rfl) ?_
            refine mm_rpu (va_runV (As := [.int (nI i)]) (rest := [.int (nI (cB i (fun v => !s_rel S v && decide (s_root S v = some ja))))]) ⟨hx, hb, hml, hown, hts⟩ (t_root l hT hR hW (by first | assumption | omega)) (cwV 1 hts (lw_V q2729 q2731 qs85 q164 q2732) rfl rfl rfl (by decide +kernel) ⟨Nat.le_of_ble_eq_true rfl, Nat.le_of_ble_eq_true rfl⟩) (mm_pV hKK (mm_rc hKK hT.2.1 mm_le.rf rfl)) rfl rfl hl.1 rfl (lv_room (Nat.le_of_ble_eq_true rfl)) dX8_referencesTo_35 ⟨Nat.le_of_ble_eq_true rfl, Nat.le_of_ble_eq_true rfl⟩) hS (mm_s0 hS) (fun L_35 hS => ?_)
            refine lv_iload_n hx hb dX8_referencesTo_38 rfl (lv_at hl 3 rfl) ?_
            refine mm_icmp_neP (tgt := 46) (fun r hr => by have := hW.root (show i < s_nv S by omega) hr; omega) (by omega) hx hb dX8_referencesTo_39 (by decide) (fun c_39 => ?_) (fun c_39 => ?_)
            · refine lv_iconst (v := nI 0) hx hb dX8_referencesTo_46 (by decide) ?_
              refine mm_top (y := mm_b false) rfl ?_
              refine mm_rpu (va_runS (As := [.int (mm_b false)]) (rest := [.int (nI (cB i (fun v => !s_rel S v && decide (s_root S v = some ja))))]) ⟨hx, hb, hml, hown, hts⟩ (t_one l ) (va_cwS 1 hts (lw_S q2467 q2468 q164 q2469) rfl rfl rfl (by decide +kernel) ⟨Nat.le_of_ble_eq_true rfl, Nat.le_of_ble_eq_true rfl⟩) (mm_pS hKK) rfl rfl hl.1 rfl (lv_room (Nat.le_of_ble_eq_true rfl)) dX8_referencesTo_47 ⟨Nat.le_of_ble_eq_true rfl, Nat.le_of_ble_eq_true rfl⟩) hS (mm_s0 hS) (fun L_47 hS => ?_)
              refine lv_iadd hx hb dX8_referencesTo_50 ?_
              refine mm_top (mm_iB _ _) ?_
              refine mm_top (y := nI (cB (i + 1) (fun v => !s_rel S v && decide (s_root S v = some ja)))) (congrArg nI (by rw [cB_succ]; simp [c_30, c_39])) ?_
              refine lv_istore_n (lv' := [(2, .int (nI (cB (i + 1) (fun v => !s_rel S v && decide (s_root S v = some ja))))), (3, .int (nI i)), (0, .ref x), (1, .int (nI ja))]) hx hb dX8_referencesTo_51 rfl hl (by decide) rfl (fun ls hl => ?_)
              refine lv_iinc (v := nI (i + 1)) (lv' := [(3, .int (nI (i + 1))), (2, .int (nI (cB (i + 1) (fun v => !s_rel S v && decide (s_root S v = some ja))))), (0, .ref x), (1, .int (nI ja))]) hx hb dX8_referencesTo_52 hl (k := 1) rfl (nI_add _ _) (by decide) rfl (fun ls hl => ?_)
              refine lv_goto (tgt := 14) hx hb dX8_referencesTo_55 (by decide) ?_
              exact ih_14 (i + 1) _ _ (by omega) (by omega) (lv_sub hl [1, 0, 2, 3] rfl)  hS
            · refine lv_iconst (v := nI 1) hx hb dX8_referencesTo_42 (by decide) ?_
              refine mm_top (y := mm_b true) rfl ?_
              refine lv_goto (tgt := 47) hx hb dX8_referencesTo_43 (by decide) ?_
              refine mm_rpu (va_runS (As := [.int (mm_b true)]) (rest := [.int (nI (cB i (fun v => !s_rel S v && decide (s_root S v = some ja))))]) ⟨hx, hb, hml, hown, hts⟩ (t_one l ) (va_cwS 1 hts (lw_S q2467 q2468 q164 q2469) rfl rfl rfl (by decide +kernel) ⟨Nat.le_of_ble_eq_true rfl, Nat.le_of_ble_eq_true rfl⟩) (mm_pS hKK) rfl rfl hl.1 rfl (lv_room (Nat.le_of_ble_eq_true rfl)) dX8_referencesTo_47 ⟨Nat.le_of_ble_eq_true rfl, Nat.le_of_ble_eq_true rfl⟩) hS (mm_s0 hS) (fun L_47 hS => ?_)
              refine lv_iadd hx hb dX8_referencesTo_50 ?_
              refine mm_top (mm_iB _ _) ?_
              refine mm_top (y := nI (cB (i + 1) (fun v => !s_rel S v && decide (s_root S v = some ja)))) (congrArg nI (by rw [cB_succ]; simp [c_30, c_39])) ?_
              refine lv_istore_n (lv' := [(2, .int (nI (cB (i + 1) (fun v => !s_rel S v && decide (s_root S v = some ja))))), (3, .int (nI i)), (0, .ref x), (1, .int (nI ja))]) hx hb dX8_referencesTo_51 rfl hl (by decide) rfl (fun ls hl => ?_)
              refine lv_iinc (v := nI (i + 1)) (lv' := [(3, .int (nI (i + 1))), (2, .int (nI (cB (i + 1) (fun v => !s_rel S v && decide (s_root S v = some ja))))), (0, .ref x), (1, .int (nI ja))]) hx hb dX8_referencesTo_52 hl (k := 1) rfl (nI_add _ _) (by decide) rfl (fun ls hl => ?_)
              refine lv_goto (tgt := 14) hx hb dX8_referencesTo_55 (by decide) ?_
              exact ih_14 (i + 1) _ _ (by omega) (by omega) (lv_sub hl [1, 0, 2, 3] rfl)  hS
    exact lp_14 _ 0 _ _ (Nat.lt_succ_self _) (by omega) (lv_sub hl [1, 0, 2, 3] rfl)  hS
  · refine lv_iconst (v := nI 0) hx hb dX8_referencesTo_8 (by decide) ?_
    exact mm_iret (v := nI 0) hx hb hr hlk hS (Nat.le_of_ble_eq_true rfl) (Nat.le_of_ble_eq_true rfl) (⟨by rw [qv_f c_5]; rfl, hT⟩) dX8_referencesTo_9
set_option maxRecDepth 100000 in
theorem t_cost0 (l : Launch) {G : mm_G} {P : mm_H} {H : Heap} {x : Nat} {ad : Nat → Nat} {I : Nat → Int32} {F : Nat → Nat → Int32} {S : sp_S} (h : Nat) (hT : TW G x ad I F H) (hR : TR (F 0) S) (hW : WF S) : Mt l yX8_cost (ws_ yX8_cost cX8_cost 6 (some .int)) ((h + 2)) ((h * 60 + 60)) 0 0 G P [.ref x, .int ((-1)), .int ((-1))] H mm_0 (mm_pu (.int (nI 0)) H) := by
  refine Mt.of (by decide) (Nat.le_of_ble_eq_true rfl) (fun p e s m below meth c ls hx hb hr hlk hml hown hnm hts hKK hsH hl hS => ?_)
  have hl : lv_has ls 6 [(0, .ref x), (1, .int ((-1))), (2, .int ((-1)))] := hl
  have hnv := hW.nv
  have hnn := hW.nn
  refine lv_iload_n hx hb dX8_cost_0 rfl (lv_at hl 1 rfl) ?_
  refine lv_iload_n hx hb dX8_cost_1 rfl (lv_at hl 2 rfl) ?_
  refine lv_icmp_ne (tgt := 7) hx hb dX8_cost_2 (by decide) (fun c_2 => ?_) (fun c_2 => ?_)
  · exact absurd rfl c_2
  · refine lv_iconst (v := nI 0) hx hb dX8_cost_5 (by decide) ?_
    exact mm_iret (v := nI 0) hx hb hr hlk hS (Nat.le_of_ble_eq_true rfl) (Nat.le_of_ble_eq_true rfl) (⟨rfl, rfl⟩) dX8_cost_6
theorem t_costO (l : Launch) {G : mm_G} {P : mm_H} {H : Heap} {x : Nat} {ad : Nat → Nat} {I : Nat → Int32} {F : Nat → Nat → Int32} {S : sp_S} (h : Nat) {o1 o2 : Option Nat} (hT : TW G x ad I F H) (hR : TR (F 0) S) (hW : WF S) (h1 : ∀ r, o1 = some r → Hgt S h r) (h2 : ∀ r, o2 = some r → Hgt S h r) (h3 : o1 = none ↔ o2 = none) : Mt l yX8_cost (ws_ yX8_cost cX8_cost 6 (some .int)) ((h + 2)) ((h * 60 + 60)) 0 0 G P [.ref x, .int (oI o1), .int (oI o2)] H mm_0 (mm_pu (.int (nI (cstO S h o1 o2))) H) := by
  cases o1 with
  | none =>
    have := h3.mp rfl
    subst this
    exact t_cost0 l h hT hR hW
  | some a =>
    cases o2 with
    | none => exact absurd (h3.mpr rfl) (by intro z; cases z)
    | some b => exact t_cost l h hT hR hW (h1 a rfl) (h2 b rfl)
set_option maxRecDepth 100000 in
theorem t_comparisonCost (l : Launch) {G : mm_G} {P : mm_H} {H : Heap} {x : Nat} {ad : Nat → Nat} {I : Nat → Int32} {F : Nat → Nat → Int32} {S : sp_S} {a b : Int32} (hT : TW G x ad I F H) (hR : TR (F 0) S) (hW : WF S) (hRg : RG S) : Mt l yX8_comparisonCost (ws_ yX8_comparisonCost cX8_comparisonCost 3 (some .int)) 10 700 0 0 G P [.ref x, .int a, .int b] H (tw_M x ad) (mm_i (qv (is2 S a b) (if hf (s_len S a.toNatClampNeg) = hf (s_len S b.toNatClampNeg) then nI (cstO S (hf (s_len S a.toNatClampNeg)) (s_root S a.toNatClampNeg) (s_root S b.toNatClampNeg)) else -1)) (fun H2 => TW G x ad (upd I 6 (ck (inR a (s_nv S) && inR b (s_nv S)) (is2 S a b) true)) F H2)) := by
  refine Mt.of (by decide) (Nat.le_of_ble_eq_true rfl) (fun p e s m below meth c ls hx hb hr hlk hml hown hnm hts hKK hsH hl hS => ?_)
  have hl : lv_has ls 3 [(0, .ref x), (1, .int a), (2, .int b)] := hl
  have hR0 := hR
  have hMx : mm_A (tw_M x ad) H x := Or.inl (Or.inl rfl)
  have hMa : ∀ j, tw_isA j = true → mm_A (tw_M x ad) H (ad j) := fun j hj => Or.inl (Or.inr ⟨j, hj, rfl⟩)
  have hnv := hW.nv
  have hnn := hW.nn
  refine lv_aload_n hx hb dX8_comparisonCost_0 rfl (lv_at hl 0 rfl) ?_
  refine lv_iload_n hx hb dX8_comparisonCost_1 rfl (lv_at hl 1 rfl) ?_
  refine lv_iload_n hx hb dX8_comparisonCost_2 rfl (lv_at hl 2 rfl) ?_
  refine mm_ri (va_runV (As := [.int a, .int b]) (rest := []) ⟨hx, hb, hml, hown, hts⟩ (t_checkTwo l hT hR hW) (cwV 2 hts (lw_V q2941 q2943 qs118 q164 q2944) rfl rfl rfl (by decide +kernel) ⟨Nat.le_of_ble_eq_true rfl, Nat.le_of_ble_eq_true rfl⟩) (mm_pV hKK (mm_rc hKK hT.2.1 mm_le.rf rfl)) rfl rfl hl.1 rfl (lv_room (Nat.le_of_ble_eq_true rfl)) dX8_comparisonCost_3 ⟨Nat.le_of_ble_eq_true rfl, Nat.le_of_ble_eq_true rfl⟩) hS (mm_sS hS) (fun H_3 L_3 hT hz_3 hq_3 hS => ?_)
  refine mm_ifneB (tgt := 11) hx hb dX8_comparisonCost_6 (by decide) (fun c_6 => ?_) (fun c_6 => ?_)
  · obtain ⟨hina, hinb, hrla, hrlb⟩ := is2_in c_6
    obtain ⟨ja, hja, heja, hcja⟩ := inR_t hina
    rw [heja] at hl
    obtain ⟨jb, hjb, hejb, hcjb⟩ := inR_t hinb
    rw [hejb] at hl
    rw [hcja] at hrla; rw [hcjb] at hrlb
    have hfa := hf_le (s_len S ja)
    have hfb := hf_le (s_len S jb)
    refine lv_aload_n hx hb dX8_comparisonCost_11 rfl (lv_at hl 0 rfl) ?_
    refine lv_iload_n hx hb dX8_comparisonCost_12 rfl (lv_at hl 1 rfl) ?_
    refine mm_rpu (va_runV (As := [.int (nI ja)]) (rest := []) ⟨hx, hb, hml, hown, hts⟩ (t_heightOf l hT hR hW (by first | assumption | omega)) (cwV 1 hts (lw_V q2733 q2735 qs86 q164 q2736) rfl rfl rfl (by decide +kernel) ⟨Nat.le_of_ble_eq_true rfl, Nat.le_of_ble_eq_true rfl⟩) (mm_pV hKK (mm_rc hKK hT.2.1 mm_le.rf rfl)) rfl rfl hl.1 rfl (lv_room (Nat.le_of_ble_eq_true rfl)) dX8_comparisonCost_13 ⟨Nat.le_of_ble_eq_true rfl, Nat.le_of_ble_eq_true rfl⟩) hS (mm_s0 hS) (fun L_13 hS => ?_)
    refine lv_aload_n hx hb dX8_comparisonCost_16 rfl (lv_at hl 0 rfl) ?_
    refine lv_iload_n hx hb dX8_comparisonCost_17 rfl (lv_at hl 2 rfl) ?_
    refine mm_rpu (va_runV (As := [.int (nI jb)]) (rest := [.int (nI (hf (s_len S ja)))]) ⟨hx, hb, hml, hown, hts⟩ (t_heightOf l hT hR hW (by first | assumption | omega)) (cwV 1 hts (lw_V q2733 q2735 qs86 q164 q2736) rfl rfl rfl (by decide +kernel) ⟨Nat.le_of_ble_eq_true rfl, Nat.le_of_ble_eq_true rfl⟩) (mm_pV hKK (mm_rc hKK hT.2.1 mm_le.rf rfl)) rfl rfl hl.1 rfl (lv_room (Nat.le_of_ble_eq_true rfl)) dX8_comparisonCost_18 ⟨Nat.le_of_ble_eq_true rfl, Nat.le_of_ble_eq_true rfl⟩) hS (mm_s0 hS) (fun L_18 hS => ?_)
    refine mm_icmp_eq (tgt := 26) (by omega) (by omega) hx hb dX8_comparisonCost_21 (by decide) (fun c_21 => ?_) (fun c_21 => ?_)
    · refine lv_aload_n hx hb dX8_comparisonCost_26 rfl (lv_at hl 0 rfl) ?_
      refine lv_aload_n hx hb dX8_comparisonCost_27 rfl (lv_at hl 0 rfl) ?_
      refine lv_iload_n hx hb dX8_comparisonCost_28 rfl (lv_at hl 1 rfl) ?_
      refine mm_rpu (va_runV (As := [.int (nI ja)]) (rest := [.ref x]) ⟨hx, hb, hml, hown, hts⟩ (t_root l hT hR hW (by first | assumption | omega)) (cwV 1 hts (lw_V q2729 q2731 qs85 q164 q2732) rfl rfl rfl (by decide +kernel) ⟨Nat.le_of_ble_eq_true rfl, Nat.le_of_ble_eq_true rfl⟩) (mm_pV hKK (mm_rc hKK hT.2.1 mm_le.rf rfl)) rfl rfl hl.1 rfl (lv_room (Nat.le_of_ble_eq_true rfl)) dX8_comparisonCost_29 ⟨Nat.le_of_ble_eq_true rfl, Nat.le_of_ble_eq_true rfl⟩) hS (mm_s0 hS) (fun L_29 hS => ?_)
      refine lv_aload_n hx hb dX8_comparisonCost_32 rfl (lv_at hl 0 rfl) ?_
      refine lv_iload_n hx hb dX8_comparisonCost_33 rfl (lv_at hl 2 rfl) ?_
      refine mm_rpu (va_runV (As := [.int (nI jb)]) (rest := [.int (oI (s_root S ja)), .ref x]) ⟨hx, hb, hml, hown, hts⟩ (t_root l hT hR hW (by first | assumption | omega)) (cwV 1 hts (lw_V q2729 q2731 qs85 q164 q2732) rfl rfl rfl (by decide +kernel) ⟨Nat.le_of_ble_eq_true rfl, Nat.le_of_ble_eq_true rfl⟩) (mm_pV hKK (mm_rc hKK hT.2.1 mm_le.rf rfl)) rfl rfl hl.1 rfl (lv_room (Nat.le_of_ble_eq_true rfl)) dX8_comparisonCost_34 ⟨Nat.le_of_ble_eq_true rfl, Nat.le_of_ble_eq_true rfl⟩) hS (mm_s0 hS) (fun L_34 hS => ?_)
      refine mm_rpu (va_runV (As := [.int (oI (s_root S ja)), .int (oI (s_root S jb))]) (rest := []) ⟨hx, hb, hml, hown, hts⟩ (t_costO l (hf (s_len S ja)) hT hR hW (fun r hr => hRg.hg ja hja hrla r hr) (fun r hr => by rw [c_21]; exact hRg.hg jb hjb hrlb r hr) (rt_none (hRg ja hja hrla) (hRg jb hjb hrlb) c_21)) (cwV 2 hts (lw_V q2997 q2999 qs124 q164 q3000) rfl rfl rfl (by decide +kernel) ⟨by simp only [mm_rm]; omega, by simp only [mm_rm]; omega⟩) (mm_pV hKK (mm_rc hKK hT.2.1 mm_le.rf rfl)) rfl rfl hl.1 rfl (lv_room (Nat.le_of_ble_eq_true rfl)) dX8_comparisonCost_37 ⟨Nat.le_of_ble_eq_true rfl, Nat.le_of_ble_eq_true rfl⟩) hS (mm_s0 hS) (fun L_37 hS => ?_)
      exact mm_iret (v := nI (cstO S (hf (s_len S ja)) (s_root S ja) (s_root S jb))) hx hb hr hlk hS (Nat.le_of_ble_eq_true rfl) (Nat.le_of_ble_eq_true rfl) (⟨by rw [qv_t c_6, hcja, hcjb, if_pos c_21], hT⟩) dX8_comparisonCost_40
    · refine lv_iconst (v := (-1)) hx hb dX8_comparisonCost_24 (by decide) ?_
      exact mm_iret (v := (-1)) hx hb hr hlk hS (Nat.le_of_ble_eq_true rfl) (Nat.le_of_ble_eq_true rfl) (⟨by rw [qv_t c_6, hcja, hcjb, if_neg c_21], hT⟩) dX8_comparisonCost_25
  · refine lv_iconst (v := nI 0) hx hb dX8_comparisonCost_9 (by decide) ?_
    exact mm_iret (v := nI 0) hx hb hr hlk hS (Nat.le_of_ble_eq_true rfl) (Nat.le_of_ble_eq_true rfl) (⟨by rw [qv_f c_6]; rfl, hT⟩) dX8_comparisonCost_10
set_option maxRecDepth 100000 in
theorem t_leafOf (l : Launch) {G : mm_G} {P : mm_H} {H : Heap} {x : Nat} {ad : Nat → Nat} {I : Nat → Int32} {F : Nat → Nat → Int32} {S : sp_S} {a b : Int32} (hT : TW G x ad I F H) (hR : TR (F 0) S) (hW : WF S) (hRg : RG S) : Mt l yX8_leafOf (ws_ yX8_leafOf cX8_leafOf 5 (some .int)) 10 700 0 0 G P [.ref x, .int a, .int b] H (tw_M x ad) (mm_i (qv (isEl S a b) (nI (lfO S (hf (s_len S a.toNatClampNeg)) (s_root S a.toNatClampNeg) b.toNatClampNeg))) (fun H2 => TW G x ad (upd I 6 (ck (hasE S a b) (isEl S a b) true)) F H2)) := by
  refine Mt.of (by decide) (Nat.le_of_ble_eq_true rfl) (fun p e s m below meth c ls hx hb hr hlk hml hown hnm hts hKK hsH hl hS => ?_)
  have hl : lv_has ls 5 [(0, .ref x), (1, .int a), (2, .int b)] := hl
  have hR0 := hR
  have hMx : mm_A (tw_M x ad) H x := Or.inl (Or.inl rfl)
  have hMa : ∀ j, tw_isA j = true → mm_A (tw_M x ad) H (ad j) := fun j hj => Or.inl (Or.inr ⟨j, hj, rfl⟩)
  have hnv := hW.nv
  have hnn := hW.nn
  refine lv_aload_n hx hb dX8_leafOf_0 rfl (lv_at hl 0 rfl) ?_
  refine lv_iload_n hx hb dX8_leafOf_1 rfl (lv_at hl 1 rfl) ?_
  refine lv_iload_n hx hb dX8_leafOf_2 rfl (lv_at hl 2 rfl) ?_
  refine mm_ri (va_runV (As := [.int a, .int b]) (rest := []) ⟨hx, hb, hml, hown, hts⟩ (t_checkElement l hT hR hW) (cwV 2 hts (lw_V q2885 q2887 qs113 q164 q2888) rfl rfl rfl (by decide +kernel) ⟨Nat.le_of_ble_eq_true rfl, Nat.le_of_ble_eq_true rfl⟩) (mm_pV hKK (mm_rc hKK hT.2.1 mm_le.rf rfl)) rfl rfl hl.1 rfl (lv_room (Nat.le_of_ble_eq_true rfl)) dX8_leafOf_3 ⟨Nat.le_of_ble_eq_true rfl, Nat.le_of_ble_eq_true rfl⟩) hS (mm_sS hS) (fun H_3 L_3 hT hz_3 hq_3 hS => ?_)
  refine mm_ifneB (tgt := 11) hx hb dX8_leafOf_6 (by decide) (fun c_6 => ?_) (fun c_6 => ?_)
  · obtain ⟨hina, hrla, hinb⟩ := isEl_in c_6
    obtain ⟨ja, hja, heja, hcja⟩ := inR_t hina
    rw [heja] at hl
    rw [hcja] at hrla hinb
    obtain ⟨jb, hjb, hejb, hcjb⟩ := inR_t hinb
    rw [hejb] at hl
    have hlena := hW.len hja
    obtain ⟨r, hr9, hreg⟩ := (hRg ja hja hrla).some (by omega)
    have hfa := hf_le (s_len S ja)
    have hpa := hf_pos (show s_len S ja ≠ 0 by omega)
    have hp4 := hf_p4 hlena
    have hrlt := hhg_lt hreg.hgt
    refine lv_aload_n hx hb dX8_leafOf_11 rfl (lv_at hl 0 rfl) ?_
    refine lv_iload_n hx hb dX8_leafOf_12 rfl (lv_at hl 1 rfl) ?_
    refine mm_rpu (va_runV (As := [.int (nI ja)]) (rest := []) ⟨hx, hb, hml, hown, hts⟩ (t_root l hT hR hW (by first | assumption | omega)) (cwV 1 hts (lw_V q2729 q2731 qs85 q164 q2732) rfl rfl rfl (by decide +kernel) ⟨Nat.le_of_ble_eq_true rfl, Nat.le_of_ble_eq_true rfl⟩) (mm_pV hKK (mm_rc hKK hT.2.1 mm_le.rf rfl)) rfl rfl hl.1 rfl (lv_room (Nat.le_of_ble_eq_true rfl)) dX8_leafOf_13 ⟨Nat.le_of_ble_eq_true rfl, Nat.le_of_ble_eq_true rfl⟩) hS (mm_s0 hS) (fun L_13 hS => ?_)
    refine mm_top (y := nI r) (oI_some hr9) ?_
    refine lv_istore_n (lv' := [(3, .int (nI r)), (0, .ref x), (1, .int (nI ja)), (2, .int (nI jb))]) hx hb dX8_leafOf_16 rfl hl (by decide) rfl (fun ls hl => ?_)
    refine lv_aload_n hx hb dX8_leafOf_17 rfl (lv_at hl 1 rfl) ?_
    refine lv_iload_n hx hb dX8_leafOf_18 rfl (lv_at hl 2 rfl) ?_
    refine mm_rpu (va_runV (As := [.int (nI ja)]) (rest := []) ⟨hx, hb, hml, hown, hts⟩ (t_heightOf l hT hR hW (by first | assumption | omega)) (cwV 1 hts (lw_V q2733 q2735 qs86 q164 q2736) rfl rfl rfl (by decide +kernel) ⟨Nat.le_of_ble_eq_true rfl, Nat.le_of_ble_eq_true rfl⟩) (mm_pV hKK (mm_rc hKK hT.2.1 mm_le.rf rfl)) rfl rfl hl.1 rfl (lv_room (Nat.le_of_ble_eq_true rfl)) dX8_leafOf_19 ⟨Nat.le_of_ble_eq_true rfl, Nat.le_of_ble_eq_true rfl⟩) hS (mm_s0 hS) (fun L_19 hS => ?_)
    refine lv_istore (lv' := [(4, .int (nI (hf (s_len S ja)))), (3, .int (nI r)), (0, .ref x), (1, .int (nI ja)), (2, .int (nI jb))]) hx hb dX8_leafOf_22 hl (by decide) rfl (fun ls hl => ?_)
    have lp_24 : ∀ (fu : Nat) (k : Nat) (h : Nat)  (L : List Loc) (ls : Array Slot), h < fu → (1 ≤ h ∧ h ≤ 3) → (∃ n e, Reg S h k n e ∧ jb % 4 ^ h < n) → (lfN S h k jb = lfN S (hf (s_len S ja)) r jb) → lv_has ls 5 [(3, .int (nI k)), (4, .int (nI h)), (0, .ref x), (1, .int (nI ja)), (2, .int (nI jb))] → va_S (mm_A (tw_M x ad) H) H H_3 L → W p l e (mm_rm 10 700 0 0) s m ([.ref x, .int a, .int b] : List Value).toArray below meth c H_3 L 0 0 (MQ below (mm_Qc H (tw_M x ad) (mm_i (qv (isEl S a b) (nI (lfO S (hf (s_len S a.toNatClampNeg)) (s_root S a.toNatClampNeg) b.toNatClampNeg))) (fun H2 => TW G x ad (upd I 6 (ck (hasE S a b) (isEl S a b) true)) F H2))) ([.ref x, .int a, .int b] : List Value).toArray s 0 0 (mm_A (tw_M x ad) H)) (F0 m 24 ls []) := by
      intro fu; induction fu with
      | zero => intro k h L ls hfu; exact absurd hfu (Nat.not_lt_zero _)
      | succ fu ih =>
        intro k h L ls hfu hh hrg hlf hl  hS
        have ih_24 := ih
        refine lv_iload hx hb dX8_leafOf_24 (lv_at hl 1 rfl) ?_
        refine lv_iconst (v := nI 1) hx hb dX8_leafOf_26 (by decide) ?_
        refine mm_icmp_le (tgt := 53) (by omega) (by omega) hx hb dX8_leafOf_27 (by decide) (fun c_27 => ?_) (fun c_27 => ?_)
        · refine lv_iload_n hx hb dX8_leafOf_53 rfl (lv_at hl 0 rfl) ?_
          exact mm_iret (v := nI k) hx hb hr hlk hS (Nat.le_of_ble_eq_true rfl) (Nat.le_of_ble_eq_true rfl) (⟨by rw [qv_t c_6, hcja, hcjb, hr9]; show _ = some (Value.int (nI (lfN S (hf (s_len S ja)) r jb))); rw [← hlf, show h = 1 by omega]; rfl, hT⟩) dX8_leafOf_54
        · obtain ⟨n, e9, hrg1, hrn⟩ := hrg
          obtain ⟨q, rfl⟩ : ∃ q, h = q + 2 := ⟨h - 2, by omega⟩
          have hkl := hhg_lt hrg1.hgt
          obtain ⟨hat, hlt⟩ := hrg1.at hrn
          have hdq := Nat.mod_mul_right_div_self jb (4 ^ (q + 1)) 4
          rw [← Nat.pow_succ] at hdq
          rw [hdq] at hat hlt
          have hkf := lf_false hrg1.hgt (Nat.succ_ne_zero q)
          have hE := hW.ent hkl hkf hat
          have hch := hrg1.2.2.2.2.2 (Nat.succ_ne_zero q) _ hat
          have hcj9 : jb % 4 ^ (q + 1) < min (4 ^ (q + 1)) (n - jb / 4 ^ (q + 1) % 4 * 4 ^ (q + 1)) := by rw [Nat.pow_succ 4 (q + 1), Nat.mod_mul_right_mod] at hlt; exact hlt
          have hlf9 : lfN S (q + 1) (s_chd S k (jb / 4 ^ (q + 1) % 4)) jb = lfN S (hf (s_len S ja)) r jb := hlf
          have hdl := Nat.div_le_self jb (4 ^ (q + 1))
          have hps := p4_le (h := q + 1) (by omega)
          have hpp := p4_pos (q + 1)
          refine lv_aload_n hx hb dX8_leafOf_30 rfl (lv_at hl 2 rfl) ?_
          refine lv_iload_n hx hb dX8_leafOf_31 rfl (lv_at hl 0 rfl) ?_
          refine lv_iload_n hx hb dX8_leafOf_32 rfl (lv_at hl 4 rfl) ?_
          refine lv_iload hx hb dX8_leafOf_33 (lv_at hl 1 rfl) ?_
          refine lv_iconst (v := nI 1) hx hb dX8_leafOf_35 (by decide) ?_
          refine mm_isub (by omega) hx hb dX8_leafOf_36 ?_
          refine mm_top (y := nI (q + 1)) (congrArg nI (by omega)) ?_
          refine mm_rpu (va_runS (As := [.int (nI (q + 1))]) (rest := [.int (nI jb), .int (nI k), .ref x]) ⟨hx, hb, hml, hown, hts⟩ (t_span l (by omega)) (va_cwS 1 hts (lw_S q2484 q2485 q164 q2486) rfl rfl rfl (by decide +kernel) ⟨Nat.le_of_ble_eq_true rfl, Nat.le_of_ble_eq_true rfl⟩) (mm_pS hKK) rfl rfl hl.1 rfl (lv_room (Nat.le_of_ble_eq_true rfl)) dX8_leafOf_37 ⟨Nat.le_of_ble_eq_true rfl, Nat.le_of_ble_eq_true rfl⟩) hS (mm_s0 hS) (fun L_37 hS => ?_)
          refine mm_idiv (by omega) (by omega) (by omega) hx hb dX8_leafOf_40 ?_
          refine lv_iconst (v := nI 4) hx hb dX8_leafOf_41 (by decide) ?_
          refine mm_irem (by omega) (by omega) (by omega) hx hb dX8_leafOf_42 ?_
          refine mm_rpu (va_runV (As := [.int (nI k), .int (nI ((jb / (4 ^ (q + 1))) % 4))]) (rest := []) ⟨hx, hb, hml, hown, hts⟩ (t_entry l hT hR hW (by first | assumption | omega) (by first | assumption | omega)) (cwV 2 hts (lw_V q2753 q2755 qs91 q164 q2756) rfl rfl rfl (by decide +kernel) ⟨Nat.le_of_ble_eq_true rfl, Nat.le_of_ble_eq_true rfl⟩) (mm_pV hKK (mm_rc hKK hT.2.1 mm_le.rf rfl)) rfl rfl hl.1 rfl (lv_room (Nat.le_of_ble_eq_true rfl)) dX8_leafOf_43 ⟨Nat.le_of_ble_eq_true rfl, Nat.le_of_ble_eq_true rfl⟩) hS (mm_s0 hS) (fun L_43 hS => ?_)
          refine mm_top (y := nI (s_chd S k (jb / 4 ^ (q + 1) % 4))) (hE.1) ?_
          refine lv_istore_n (lv' := [(3, .int (nI (s_chd S k (jb / 4 ^ (q + 1) % 4)))), (4, .int (nI (q + 2))), (0, .ref x), (1, .int (nI ja)), (2, .int (nI jb))]) hx hb dX8_leafOf_46 rfl hl (by decide) rfl (fun ls hl => ?_)
          refine lv_iinc (v := nI ((q + 2) - 1)) (lv' := [(4, .int (nI ((q + 2) - 1))), (3, .int (nI (s_chd S k (jb / 4 ^ (q + 1) % 4)))), (0, .ref x), (1, .int (nI ja)), (2, .int (nI jb))]) hx hb dX8_leafOf_47 hl (k := 1) rfl (mm_decr (by omega)) (by decide) rfl (fun ls hl => ?_)
          rw [show (q + 2) - 1 = q + 1 by omega] at hl
          refine lv_goto (tgt := 24) hx hb dX8_leafOf_50 (by decide) ?_
          exact ih_24 (s_chd S k (jb / 4 ^ (q + 1) % 4)) (q + 1) _ _ (by omega) (⟨by omega, by omega⟩) (⟨_, _, hch, hcj9⟩) (hlf9) (lv_sub hl [1, 0, 2, 3, 4] rfl)  hS
    exact lp_24 _ r (hf (s_len S ja)) _ _ (Nat.lt_succ_self _) (⟨by omega, hfa⟩) (⟨_, _, hreg, by rw [Nat.mod_eq_of_lt (by omega)]; exact hjb⟩) (rfl) (lv_sub hl [1, 0, 2, 3, 4] rfl)  hS
  · refine lv_iconst (v := nI 0) hx hb dX8_leafOf_9 (by decide) ?_
    exact mm_iret (v := nI 0) hx hb hr hlk hS (Nat.le_of_ble_eq_true rfl) (Nat.le_of_ble_eq_true rfl) (⟨by rw [qv_f c_6]; rfl, hT⟩) dX8_leafOf_10
