/-! the twin: versions made (printed by tools/tw7.py) -/
set_option maxRecDepth 100000 in
theorem t_makeSet (l : Launch) {G : mm_G} {P : mm_H} {H : Heap} {x : Nat} {ad : Nat → Nat} {I : Nat → Int32} {F : Nat → Nat → Int32} {S : sp_S} {v i : Nat} {its : Int32} (hT : TW G x ad I F H) (hR : TR (F 0) S) (hW : WF S) (hRg : RG S) (hv : v < s_nv S) (hl9 : s_rel S v = false) (hv9 : s_nv S < 40) (hnn9 : s_nn S + 4 ≤ 190) (hi9 : i < s_len S v) : Mt l yX8_makeSet (ws_ yX8_makeSet cX8_makeSet 8 (some .int)) 16 1200 0 0 G P [.ref x, .int (nI v), .int (nI i), .int its] H (tw_M x ad) (mm_i (nI (s_nv S)) (fun H2 => ∃ F2, TW G x ad I F2 H2 ∧ eqx [0, 7] F F2 ∧ TR (F2 0) (setOp S v i its))) := by
  refine Mt.of (by decide) (Nat.le_of_ble_eq_true rfl) (fun p e s m below meth c ls hx hb hr hlk hml hown hnm hts hKK hsH hl hS => ?_)
  have hl : lv_has ls 8 [(0, .ref x), (1, .int (nI v)), (2, .int (nI i)), (3, .int its)] := hl
  have hR0 := hR
  have hMx : mm_A (tw_M x ad) H x := Or.inl (Or.inl rfl)
  have hMa : ∀ j, tw_isA j = true → mm_A (tw_M x ad) H (ad j) := fun j hj => Or.inl (Or.inr ⟨j, hj, rfl⟩)
  have hnv := hW.nv
  have hnn := hW.nn
  have hlv := hW.len hv
  have hhf := hf_le (s_len S v)
  obtain ⟨r, hr9, hreg⟩ := (hRg v hv hl9).some (by omega)
  have hrlt := hreg.hgt
  have hrlt := hhg_lt hrlt
  refine lv_aload_n hx hb dX8_makeSet_0 rfl (lv_at hl 0 rfl) ?_
  refine tw_geta 0 hx hb hts hown hKK hT rfl rfl (hts _ q2498) dX8_makeSet_1 ?_
  refine lv_iconst (v := nI 1) hx hb dX8_makeSet_4 (by decide) ?_
  refine mm_iald (k := 1) hx hb hKK (hT.2.2 0 rfl) mm_le.rf (by show _ < 4210; omega) (by decide) dX8_makeSet_5 ?_
  refine mm_top (y := nI (s_nn S)) (hR.nn) ?_
  refine lv_istore (lv' := [(4, .int (nI (s_nn S))), (0, .ref x), (1, .int (nI v)), (2, .int (nI i)), (3, .int its)]) hx hb dX8_makeSet_6 hl (by decide) rfl (fun ls hl => ?_)
  refine lv_aload_n hx hb dX8_makeSet_8 rfl (lv_at hl 1 rfl) ?_
  refine lv_iload_n hx hb dX8_makeSet_9 rfl (lv_at hl 2 rfl) ?_
  refine lv_iload_n hx hb dX8_makeSet_10 rfl (lv_at hl 3 rfl) ?_
  refine mm_rpu (va_runV (As := [.int (nI v), .int (nI i)]) (rest := []) ⟨hx, hb, hml, hown, hts⟩ (t_element l hT hR hW (by first | assumption | omega) (by first | assumption | omega)) (cwV 2 hts (lw_V q2494 q2496 qs61 q164 q2497) rfl rfl rfl (by decide +kernel) ⟨Nat.le_of_ble_eq_true rfl, Nat.le_of_ble_eq_true rfl⟩) (mm_pV hKK (mm_rc hKK hT.2.1 mm_le.rf rfl)) rfl rfl hl.1 rfl (lv_room (Nat.le_of_ble_eq_true rfl)) dX8_makeSet_11 ⟨Nat.le_of_ble_eq_true rfl, Nat.le_of_ble_eq_true rfl⟩) hS (mm_s0 hS) (fun L_11 hS => ?_)
  refine lv_iload_n hx hb dX8_makeSet_14 rfl (lv_at hl 4 rfl) ?_
  refine lv_icmp_ne (tgt := 22) hx hb dX8_makeSet_15 (by decide) (fun c_15 => ?_) (fun c_15 => ?_)
  · refine lv_iconst (v := nI 0) hx hb dX8_makeSet_22 (by decide) ?_
    refine lv_istore (lv' := [(5, .int (nI 0)), (4, .int (nI (s_nn S))), (0, .ref x), (1, .int (nI v)), (2, .int (nI i)), (3, .int its)]) hx hb dX8_makeSet_23 hl (by decide) rfl (fun ls hl => ?_)
    refine lv_iload hx hb dX8_makeSet_25 (lv_at hl 0 rfl) ?_
    refine mm_if_eq (tgt := 38) (by omega) hx hb dX8_makeSet_27 (by decide) (fun c_27 => ?_) (fun c_27 => ?_)
    · refine lv_aload_n hx hb dX8_makeSet_38 rfl (lv_at hl 2 rfl) ?_
      refine lv_aload_n hx hb dX8_makeSet_39 rfl (lv_at hl 2 rfl) ?_
      refine lv_iload_n hx hb dX8_makeSet_40 rfl (lv_at hl 3 rfl) ?_
      refine mm_rpu (va_runV (As := [.int (nI v)]) (rest := [.ref x]) ⟨hx, hb, hml, hown, hts⟩ (t_root l hT hR hW (by first | assumption | omega)) (cwV 1 hts (lw_V q2729 q2731 qs85 q164 q2732) rfl rfl rfl (by decide +kernel) ⟨Nat.le_of_ble_eq_true rfl, Nat.le_of_ble_eq_true rfl⟩) (mm_pV hKK (mm_rc hKK hT.2.1 mm_le.rf rfl)) rfl rfl hl.1 rfl (lv_room (Nat.le_of_ble_eq_true rfl)) dX8_makeSet_41 ⟨Nat.le_of_ble_eq_true rfl, Nat.le_of_ble_eq_true rfl⟩) hS (mm_s0 hS) (fun L_41 hS => ?_)
      refine mm_top (y := nI r) (oI_some hr9) ?_
      refine lv_aload_n hx hb dX8_makeSet_44 rfl (lv_at hl 2 rfl) ?_
      refine lv_iload_n hx hb dX8_makeSet_45 rfl (lv_at hl 3 rfl) ?_
      refine mm_rpu (va_runV (As := [.int (nI v)]) (rest := [.int (nI r), .ref x]) ⟨hx, hb, hml, hown, hts⟩ (t_heightOf l hT hR hW (by first | assumption | omega)) (cwV 1 hts (lw_V q2733 q2735 qs86 q164 q2736) rfl rfl rfl (by decide +kernel) ⟨Nat.le_of_ble_eq_true rfl, Nat.le_of_ble_eq_true rfl⟩) (mm_pV hKK (mm_rc hKK hT.2.1 mm_le.rf rfl)) rfl rfl hl.1 rfl (lv_room (Nat.le_of_ble_eq_true rfl)) dX8_makeSet_46 ⟨Nat.le_of_ble_eq_true rfl, Nat.le_of_ble_eq_true rfl⟩) hS (mm_s0 hS) (fun L_46 hS => ?_)
      refine lv_iload_n hx hb dX8_makeSet_49 rfl (lv_at hl 4 rfl) ?_
      refine lv_iload_n hx hb dX8_makeSet_50 rfl (lv_at hl 5 rfl) ?_
      have hhg := hreg.hgt
      have hin := hreg.inT hi9
      refine mm_ri (va_runV (As := [.int (nI r), .int (nI (hf (s_len S v))), .int (nI i), .int its]) (rest := []) ⟨hx, hb, hml, hown, hts⟩ (t_replaced l (hf (s_len S v)) hT hR hW hhg hin (by omega) (by omega) (by omega)) (cwV 4 hts (lw_V q2737 q2739 qs87 q164 q2740) rfl rfl rfl (by decide +kernel) ⟨by simp only [mm_rm]; omega, by simp only [mm_rm]; omega⟩) (mm_pV hKK (mm_rc hKK hT.2.1 mm_le.rf rfl)) rfl rfl hl.1 rfl (lv_room (Nat.le_of_ble_eq_true rfl)) dX8_makeSet_51 ⟨Nat.le_of_ble_eq_true rfl, Nat.le_of_ble_eq_true rfl⟩) hS (mm_sS hS) (fun H_51 L_51 hB_51 hz_51 hq_51 hS => ?_)
      obtain ⟨F_51, hT, he_51, hR⟩ := hB_51
      rw [← hr9] at hR
      refine mm_top (y := nI ((cpy S (hf (s_len S v)) (s_root S v) i its).1)) (by rw [hr9]) ?_
      have hx := setT_ex (its := its) hW (hRg v hv hl9) hi9 (by omega) (by omega)
      unfold setT at hx
      rw [if_neg c_15] at hx
      obtain ⟨hx1, hx2, hW, -⟩ := hx
      obtain ⟨T, hTd⟩ : ∃ T, T = (cpy S (hf (s_len S v)) (s_root S v) i its).2 := ⟨_, rfl⟩
      rw [← hTd] at hR hx1 hW
      have hx1v := hx1.1
      refine lv_istore (lv' := [(6, .int (nI ((cpy S (hf (s_len S v)) (s_root S v) i its).1))), (5, .int (nI 0)), (4, .int (nI (s_nn S))), (0, .ref x), (1, .int (nI v)), (2, .int (nI i)), (3, .int its)]) hx hb dX8_makeSet_54 hl (by decide) rfl (fun ls hl => ?_)
      refine lv_aload_n hx hb dX8_makeSet_56 rfl (lv_at hl 3 rfl) ?_
      refine lv_iload_n hx hb dX8_makeSet_57 rfl (lv_at hl 4 rfl) ?_
      refine lv_aload_n hx hb dX8_makeSet_58 rfl (lv_at hl 3 rfl) ?_
      refine lv_iload_n hx hb dX8_makeSet_59 rfl (lv_at hl 4 rfl) ?_
      refine mm_rpu (va_runV (As := [.int (nI v)]) (rest := [.int (nI v), .ref x]) ⟨hx, hb, hml, hown, hts⟩ (t_lengthOf l (S := T) hT hR hW (by rw [hx1.1]; exact hv)) (cwV 1 hts (lw_V q2487 q2489 qs60 q164 q2490) rfl rfl rfl (by decide +kernel) ⟨Nat.le_of_ble_eq_true rfl, Nat.le_of_ble_eq_true rfl⟩) (mm_pV hKK (mm_rc hKK hT.2.1 mm_le.rf rfl)) rfl rfl hl.1 rfl (lv_room (Nat.le_of_ble_eq_true rfl)) dX8_makeSet_60 ⟨Nat.le_of_ble_eq_true rfl, Nat.le_of_ble_eq_true rfl⟩) hS (mm_s0 hS) (fun L_60 hS => ?_)
      refine mm_top (y := nI (s_len S v)) (by rw [(hx1.ver v).1]) ?_
      refine lv_iload hx hb dX8_makeSet_63 (lv_at hl 0 rfl) ?_
      refine lv_iload hx hb dX8_makeSet_65 (lv_at hl 2 rfl) ?_
      refine mm_ri (va_runV (As := [.int (nI v), .int (nI (s_len S v)), .int (nI ((cpy S (hf (s_len S v)) (s_root S v) i its).1)), .int (nI (s_nn S))]) (rest := []) ⟨hx, hb, hml, hown, hts⟩ (t_addVersion l (S := T) (par := some v) (root := (some ((cpy S (hf (s_len S v)) (s_root S v) i its).1))) hT hR hW (by rw [hx1.1]; exact hv9) (by omega) (fun r hr => by cases hr; rw [hx1.1]; exact hv) hx1.2.2.1) (cwV 4 hts (lw_V q2474 q2476 qs59 q164 q2477) rfl rfl rfl (by decide +kernel) ⟨Nat.le_of_ble_eq_true rfl, Nat.le_of_ble_eq_true rfl⟩) (mm_pV hKK (mm_rc hKK hT.2.1 mm_le.rf rfl)) rfl rfl hl.1 rfl (lv_room (Nat.le_of_ble_eq_true rfl)) dX8_makeSet_67 ⟨Nat.le_of_ble_eq_true rfl, Nat.le_of_ble_eq_true rfl⟩) hS (mm_sS hS) (fun H_67 L_67 hB_67 hz_67 hq_67 hS => ?_)
      obtain ⟨F_67, hT, he_67, hR⟩ := hB_67
      refine lv_istore (lv' := [(7, .int (nI (s_nv T))), (6, .int (nI ((cpy S (hf (s_len S v)) (s_root S v) i its).1))), (5, .int (nI 0)), (4, .int (nI (s_nn S))), (0, .ref x), (1, .int (nI v)), (2, .int (nI i)), (3, .int its)]) hx hb dX8_makeSet_70 hl (by decide) rfl (fun ls hl => ?_)
      refine lv_aload_n hx hb dX8_makeSet_72 rfl (lv_at hl 4 rfl) ?_
      refine tw_geta 0 hx hb hts hown hKK hT rfl rfl (hts _ q2498) dX8_makeSet_73 ?_
      refine lv_iload hx hb dX8_makeSet_76 (lv_at hl 0 rfl) ?_
      refine mm_rpu (va_runS (As := [.int (nI (s_nv T))]) (rest := [.ref (ad 0)]) ⟨hx, hb, hml, hown, hts⟩ (t_e l ) (va_cwS 1 hts (lw_S q2491 q2492 q164 q2493) rfl rfl rfl (by decide +kernel) ⟨Nat.le_of_ble_eq_true rfl, Nat.le_of_ble_eq_true rfl⟩) (mm_pS hKK) rfl rfl hl.1 rfl (lv_room (Nat.le_of_ble_eq_true rfl)) dX8_makeSet_78 ⟨Nat.le_of_ble_eq_true rfl, Nat.le_of_ble_eq_true rfl⟩) hS (mm_s0 hS) (fun L_78 hS => ?_)
      refine lv_iload_n hx hb dX8_makeSet_81 rfl (lv_at hl 6 rfl) ?_
      refine mm_iadd hx hb dX8_makeSet_82 ?_
      refine lv_iload_n hx hb dX8_makeSet_83 rfl (lv_at hl 7 rfl) ?_
      refine tw_st 0 (k := (250 + 64 * (s_nv T) + i)) hx hb hKK hT hS hMa rfl rfl (by show _ < 4210; omega) dX8_makeSet_84 (fun H_84 L_84 hT hz_84 hq_84 hS => ?_)
      refine lv_iload hx hb dX8_makeSet_85 (lv_at hl 0 rfl) ?_
      exact mm_iret (v := nI (s_nv T)) hx hb hr hlk hS (Nat.le_of_ble_eq_true rfl) (Nat.le_of_ble_eq_true rfl) (⟨by rw [hx1.1], _, hT, he_51.tr ((he_67.mono (by decide)).tr (eqx.u (by decide))), by rw [← setOp_diff c_15 hTd hx1]; exact TR_setE hW (by rw [hx1.1]; exact hv9) (by omega) hR⟩) dX8_makeSet_87
    · exact absurd c_27 (by decide)
  · refine lv_iconst (v := nI 1) hx hb dX8_makeSet_18 (by decide) ?_
    refine lv_goto (tgt := 23) hx hb dX8_makeSet_19 (by decide) ?_
    refine lv_istore (lv' := [(5, .int (nI 1)), (4, .int (nI (s_nn S))), (0, .ref x), (1, .int (nI v)), (2, .int (nI i)), (3, .int its)]) hx hb dX8_makeSet_23 hl (by decide) rfl (fun ls hl => ?_)
    refine lv_iload hx hb dX8_makeSet_25 (lv_at hl 0 rfl) ?_
    refine mm_if_eq (tgt := 38) (by omega) hx hb dX8_makeSet_27 (by decide) (fun c_27 => ?_) (fun c_27 => ?_)
    · exact absurd c_27 (by decide)
    · refine lv_aload_n hx hb dX8_makeSet_30 rfl (lv_at hl 2 rfl) ?_
      refine lv_iload_n hx hb dX8_makeSet_31 rfl (lv_at hl 3 rfl) ?_
      refine mm_rpu (va_runV (As := [.int (nI v)]) (rest := []) ⟨hx, hb, hml, hown, hts⟩ (t_root l hT hR hW (by first | assumption | omega)) (cwV 1 hts (lw_V q2729 q2731 qs85 q164 q2732) rfl rfl rfl (by decide +kernel) ⟨Nat.le_of_ble_eq_true rfl, Nat.le_of_ble_eq_true rfl⟩) (mm_pV hKK (mm_rc hKK hT.2.1 mm_le.rf rfl)) rfl rfl hl.1 rfl (lv_room (Nat.le_of_ble_eq_true rfl)) dX8_makeSet_32 ⟨Nat.le_of_ble_eq_true rfl, Nat.le_of_ble_eq_true rfl⟩) hS (mm_s0 hS) (fun L_32 hS => ?_)
      have hx1 : exN S S := exN.rf
      refine lv_goto (tgt := 54) hx hb dX8_makeSet_35 (by decide) ?_
      refine lv_istore (lv' := [(6, .int (oI (s_root S v))), (5, .int (nI 1)), (4, .int (nI (s_nn S))), (0, .ref x), (1, .int (nI v)), (2, .int (nI i)), (3, .int its)]) hx hb dX8_makeSet_54 hl (by decide) rfl (fun ls hl => ?_)
      refine lv_aload_n hx hb dX8_makeSet_56 rfl (lv_at hl 3 rfl) ?_
      refine lv_iload_n hx hb dX8_makeSet_57 rfl (lv_at hl 4 rfl) ?_
      refine lv_aload_n hx hb dX8_makeSet_58 rfl (lv_at hl 3 rfl) ?_
      refine lv_iload_n hx hb dX8_makeSet_59 rfl (lv_at hl 4 rfl) ?_
      refine mm_rpu (va_runV (As := [.int (nI v)]) (rest := [.int (nI v), .ref x]) ⟨hx, hb, hml, hown, hts⟩ (t_lengthOf l hT hR hW (by first | assumption | omega)) (cwV 1 hts (lw_V q2487 q2489 qs60 q164 q2490) rfl rfl rfl (by decide +kernel) ⟨Nat.le_of_ble_eq_true rfl, Nat.le_of_ble_eq_true rfl⟩) (mm_pV hKK (mm_rc hKK hT.2.1 mm_le.rf rfl)) rfl rfl hl.1 rfl (lv_room (Nat.le_of_ble_eq_true rfl)) dX8_makeSet_60 ⟨Nat.le_of_ble_eq_true rfl, Nat.le_of_ble_eq_true rfl⟩) hS (mm_s0 hS) (fun L_60 hS => ?_)
      refine lv_iload hx hb dX8_makeSet_63 (lv_at hl 0 rfl) ?_
      refine lv_iload hx hb dX8_makeSet_65 (lv_at hl 2 rfl) ?_
      refine mm_ri (va_runV (As := [.int (nI v), .int (nI (s_len S v)), .int (oI (s_root S v)), .int (nI (s_nn S))]) (rest := []) ⟨hx, hb, hml, hown, hts⟩ (t_addVersion l (S := S) (par := some v) (root := (s_root S v)) hT hR hW (by rw [hx1.1]; exact hv9) (by omega) (fun r hr => by cases hr; rw [hx1.1]; exact hv) hx1.2.2.1) (cwV 4 hts (lw_V q2474 q2476 qs59 q164 q2477) rfl rfl rfl (by decide +kernel) ⟨Nat.le_of_ble_eq_true rfl, Nat.le_of_ble_eq_true rfl⟩) (mm_pV hKK (mm_rc hKK hT.2.1 mm_le.rf rfl)) rfl rfl hl.1 rfl (lv_room (Nat.le_of_ble_eq_true rfl)) dX8_makeSet_67 ⟨Nat.le_of_ble_eq_true rfl, Nat.le_of_ble_eq_true rfl⟩) hS (mm_sS hS) (fun H_67 L_67 hB_67 hz_67 hq_67 hS => ?_)
      obtain ⟨F_67, hT, he_67, hR⟩ := hB_67
      refine lv_istore (lv' := [(7, .int (nI (s_nv S))), (6, .int (oI (s_root S v))), (5, .int (nI 1)), (4, .int (nI (s_nn S))), (0, .ref x), (1, .int (nI v)), (2, .int (nI i)), (3, .int its)]) hx hb dX8_makeSet_70 hl (by decide) rfl (fun ls hl => ?_)
      refine lv_aload_n hx hb dX8_makeSet_72 rfl (lv_at hl 4 rfl) ?_
      refine tw_geta 0 hx hb hts hown hKK hT rfl rfl (hts _ q2498) dX8_makeSet_73 ?_
      refine lv_iload hx hb dX8_makeSet_76 (lv_at hl 0 rfl) ?_
      refine mm_rpu (va_runS (As := [.int (nI (s_nv S))]) (rest := [.ref (ad 0)]) ⟨hx, hb, hml, hown, hts⟩ (t_e l ) (va_cwS 1 hts (lw_S q2491 q2492 q164 q2493) rfl rfl rfl (by decide +kernel) ⟨Nat.le_of_ble_eq_true rfl, Nat.le_of_ble_eq_true rfl⟩) (mm_pS hKK) rfl rfl hl.1 rfl (lv_room (Nat.le_of_ble_eq_true rfl)) dX8_makeSet_78 ⟨Nat.le_of_ble_eq_true rfl, Nat.le_of_ble_eq_true rfl⟩) hS (mm_s0 hS) (fun L_78 hS => ?_)
      refine lv_iload_n hx hb dX8_makeSet_81 rfl (lv_at hl 6 rfl) ?_
      refine mm_iadd hx hb dX8_makeSet_82 ?_
      refine lv_iload_n hx hb dX8_makeSet_83 rfl (lv_at hl 7 rfl) ?_
      refine tw_st 0 (k := (250 + 64 * (s_nv S) + i)) hx hb hKK hT hS hMa rfl rfl (by show _ < 4210; omega) dX8_makeSet_84 (fun H_84 L_84 hT hz_84 hq_84 hS => ?_)
      refine lv_iload hx hb dX8_makeSet_85 (lv_at hl 0 rfl) ?_
      exact mm_iret (v := nI (s_nv S)) hx hb hr hlk hS (Nat.le_of_ble_eq_true rfl) (Nat.le_of_ble_eq_true rfl) (⟨rfl, _, hT, (he_67.mono (by decide)).tr (eqx.u (by decide)), by rw [setOp_same c_15]; exact TR_setE hW hv9 (by omega) hR⟩) dX8_makeSet_87
set_option maxRecDepth 100000 in
theorem t_grownRoot (l : Launch) {G : mm_G} {P : mm_H} {H : Heap} {x : Nat} {ad : Nat → Nat} {I : Nat → Int32} {F : Nat → Nat → Int32} {S : sp_S} {v : Nat} {its : Int32} (hT : TW G x ad I F H) (hR : TR (F 0) S) (hW : WF S) (hRg : RG S) (hv : v < s_nv S) (hl9 : s_rel S v = false) (hv9 : s_nv S < 40) (hnn9 : s_nn S + 4 ≤ 190) (hi9 : s_len S v < 64) : Mt l yX8_grownRoot (ws_ yX8_grownRoot cX8_grownRoot 6 (some .int)) 14 1000 0 0 G P [.ref x, .int (nI v), .int its] H (tw_M x ad) (mm_i (nI (appT S v its).1) (fun H2 => ∃ F2, TW G x ad I F2 H2 ∧ eqx [0, 7] F F2 ∧ TR (F2 0) (appT S v its).2)) := by
  refine Mt.of (by decide) (Nat.le_of_ble_eq_true rfl) (fun p e s m below meth c ls hx hb hr hlk hml hown hnm hts hKK hsH hl hS => ?_)
  have hl : lv_has ls 6 [(0, .ref x), (1, .int (nI v)), (2, .int its)] := hl
  have hR0 := hR
  have hMx : mm_A (tw_M x ad) H x := Or.inl (Or.inl rfl)
  have hMa : ∀ j, tw_isA j = true → mm_A (tw_M x ad) H (ad j) := fun j hj => Or.inl (Or.inr ⟨j, hj, rfl⟩)
  have hnv := hW.nv
  have hnn := hW.nn
  have hlv := hW.len hv
  have hhf := hf_le (s_len S v)
  refine lv_aload_n hx hb dX8_grownRoot_0 rfl (lv_at hl 0 rfl) ?_
  refine lv_iload_n hx hb dX8_grownRoot_1 rfl (lv_at hl 1 rfl) ?_
  refine mm_rpu (va_runV (As := [.int (nI v)]) (rest := []) ⟨hx, hb, hml, hown, hts⟩ (t_lengthOf l hT hR hW (by first | assumption | omega)) (cwV 1 hts (lw_V q2487 q2489 qs60 q164 q2490) rfl rfl rfl (by decide +kernel) ⟨Nat.le_of_ble_eq_true rfl, Nat.le_of_ble_eq_true rfl⟩) (mm_pV hKK (mm_rc hKK hT.2.1 mm_le.rf rfl)) rfl rfl hl.1 rfl (lv_room (Nat.le_of_ble_eq_true rfl)) dX8_grownRoot_2 ⟨Nat.le_of_ble_eq_true rfl, Nat.le_of_ble_eq_true rfl⟩) hS (mm_s0 hS) (fun L_2 hS => ?_)
  refine lv_istore_n (lv' := [(3, .int (nI (s_len S v))), (0, .ref x), (1, .int (nI v)), (2, .int its)]) hx hb dX8_grownRoot_5 rfl hl (by decide) rfl (fun ls hl => ?_)
  refine lv_aload_n hx hb dX8_grownRoot_6 rfl (lv_at hl 1 rfl) ?_
  refine lv_iload_n hx hb dX8_grownRoot_7 rfl (lv_at hl 2 rfl) ?_
  refine mm_rpu (va_runV (As := [.int (nI v)]) (rest := []) ⟨hx, hb, hml, hown, hts⟩ (t_heightOf l hT hR hW (by first | assumption | omega)) (cwV 1 hts (lw_V q2733 q2735 qs86 q164 q2736) rfl rfl rfl (by decide +kernel) ⟨Nat.le_of_ble_eq_true rfl, Nat.le_of_ble_eq_true rfl⟩) (mm_pV hKK (mm_rc hKK hT.2.1 mm_le.rf rfl)) rfl rfl hl.1 rfl (lv_room (Nat.le_of_ble_eq_true rfl)) dX8_grownRoot_8 ⟨Nat.le_of_ble_eq_true rfl, Nat.le_of_ble_eq_true rfl⟩) hS (mm_s0 hS) (fun L_8 hS => ?_)
  refine lv_istore (lv' := [(4, .int (nI (hf (s_len S v)))), (3, .int (nI (s_len S v))), (0, .ref x), (1, .int (nI v)), (2, .int its)]) hx hb dX8_grownRoot_11 hl (by decide) rfl (fun ls hl => ?_)
  refine lv_iload_n hx hb dX8_grownRoot_13 rfl (lv_at hl 1 rfl) ?_
  refine mm_if_ne (tgt := 26) (by omega) hx hb dX8_grownRoot_14 (by decide) (fun c_14 => ?_) (fun c_14 => ?_)
  · obtain ⟨r, hr9, hreg⟩ := (hRg v hv hl9).some c_14
    have hhg := hreg.hgt
    have hp4 := hf_p4 hlv
    have hp41 := hf_pos c_14
    have hp42 := p4_le (h := hf (s_len S v)) (by omega)
    refine lv_iload_n hx hb dX8_grownRoot_26 rfl (lv_at hl 1 rfl) ?_
    refine lv_iload hx hb dX8_grownRoot_27 (lv_at hl 0 rfl) ?_
    refine mm_rpu (va_runS (As := [.int (nI (hf (s_len S v)))]) (rest := [.int (nI (s_len S v))]) ⟨hx, hb, hml, hown, hts⟩ (t_span l (by omega)) (va_cwS 1 hts (lw_S q2484 q2485 q164 q2486) rfl rfl rfl (by decide +kernel) ⟨Nat.le_of_ble_eq_true rfl, Nat.le_of_ble_eq_true rfl⟩) (mm_pS hKK) rfl rfl hl.1 rfl (lv_room (Nat.le_of_ble_eq_true rfl)) dX8_grownRoot_29 ⟨Nat.le_of_ble_eq_true rfl, Nat.le_of_ble_eq_true rfl⟩) hS (mm_s0 hS) (fun L_29 hS => ?_)
    refine mm_icmp_ge (tgt := 49) (by omega) (by omega) hx hb dX8_grownRoot_32 (by decide) (fun c_32 => ?_) (fun c_32 => ?_)
    · refine lv_aload_n hx hb dX8_grownRoot_49 rfl (lv_at hl 2 rfl) ?_
      refine lv_iconst (v := (-1)) hx hb dX8_grownRoot_50 (by decide) ?_
      refine lv_iload hx hb dX8_grownRoot_51 (lv_at hl 0 rfl) ?_
      refine lv_iconst (v := nI 0) hx hb dX8_grownRoot_53 (by decide) ?_
      refine lv_iload_n hx hb dX8_grownRoot_54 rfl (lv_at hl 4 rfl) ?_
      refine mm_ri (va_runV (As := [.int ((-1)), .int (nI (hf (s_len S v))), .int (nI 0), .int its]) (rest := []) ⟨hx, hb, hml, hown, hts⟩ (t_extended l (hf (s_len S v)) hT hR hW (o := none) (fun r hr => by cases hr) (by rw [hp41]; exact exT_0 _) (by omega) (by omega) (by omega)) (cwV 4 hts (lw_V q2769 q2771 qs95 q164 q2772) rfl rfl rfl (by decide +kernel) ⟨by simp only [mm_rm]; omega, by simp only [mm_rm]; omega⟩) (mm_pV hKK (mm_rc hKK hT.2.1 mm_le.rf rfl)) rfl rfl hl.1 rfl (lv_room (Nat.le_of_ble_eq_true rfl)) dX8_grownRoot_55 ⟨Nat.le_of_ble_eq_true rfl, Nat.le_of_ble_eq_true rfl⟩) hS (mm_sS hS) (fun H_55 L_55 hB_55 hz_55 hq_55 hS => ?_)
      obtain ⟨F_55, hT, he_55, hR⟩ := hB_55
      obtain ⟨hx1, hx2, hx3⟩ := cpy_ex S its (hf (s_len S v)) none 0
      have hx4 := hx3 (by omega)
      have hW2 : WF (cpy S (hf (s_len S v)) none 0 its).2 := cpy_WF hW its (fun r hr => by cases hr) (by rw [hp41]; exact (exT_0 _).pa) (by omega)
      refine lv_istore (lv' := [(5, .int (nI ((cpy S (hf (s_len S v)) none 0 its).1))), (4, .int (nI (hf (s_len S v)))), (3, .int (nI (s_len S v))), (0, .ref x), (1, .int (nI v)), (2, .int its)]) hx hb dX8_grownRoot_58 hl (by decide) rfl (fun ls hl => ?_)
      refine lv_aload_n hx hb dX8_grownRoot_60 rfl (lv_at hl 3 rfl) ?_
      refine tw_geta 7 hx hb hts hown hKK hT rfl rfl (hts _ q2505) dX8_grownRoot_61 ?_
      refine lv_iconst (v := nI 0) hx hb dX8_grownRoot_64 (by decide) ?_
      refine lv_aload_n hx hb dX8_grownRoot_65 rfl (lv_at hl 3 rfl) ?_
      refine lv_iload_n hx hb dX8_grownRoot_66 rfl (lv_at hl 4 rfl) ?_
      refine mm_rpu (va_runV (As := [.int (nI v)]) (rest := [.int (nI 0), .ref (ad 7)]) ⟨hx, hb, hml, hown, hts⟩ (t_root l (S := (cpy S (hf (s_len S v)) none 0 its).2) hT hR hW2 (by rw [hx1.1]; exact hv)) (cwV 1 hts (lw_V q2729 q2731 qs85 q164 q2732) rfl rfl rfl (by decide +kernel) ⟨Nat.le_of_ble_eq_true rfl, Nat.le_of_ble_eq_true rfl⟩) (mm_pV hKK (mm_rc hKK hT.2.1 mm_le.rf rfl)) rfl rfl hl.1 rfl (lv_room (Nat.le_of_ble_eq_true rfl)) dX8_grownRoot_67 ⟨Nat.le_of_ble_eq_true rfl, Nat.le_of_ble_eq_true rfl⟩) hS (mm_s0 hS) (fun L_67 hS => ?_)
      refine mm_top (y := oI (s_root S v)) (by rw [(hx1.ver v).2.1]) ?_
      refine tw_st 7 (k := 0) hx hb hKK hT hS hMa rfl rfl (by show _ < 4; omega) dX8_grownRoot_70 (fun H_70 L_70 hT hz_70 hq_70 hS => ?_)
      refine lv_aload_n hx hb dX8_grownRoot_71 rfl (lv_at hl 3 rfl) ?_
      refine tw_geta 7 hx hb hts hown hKK hT rfl rfl (hts _ q2505) dX8_grownRoot_72 ?_
      refine lv_iconst (v := nI 1) hx hb dX8_grownRoot_75 (by decide) ?_
      refine lv_iload hx hb dX8_grownRoot_76 (lv_at hl 0 rfl) ?_
      refine tw_st 7 (k := 1) hx hb hKK hT hS hMa rfl rfl (by show _ < 4; omega) dX8_grownRoot_78 (fun H_78 L_78 hT hz_78 hq_78 hS => ?_)
      refine lv_aload_n hx hb dX8_grownRoot_79 rfl (lv_at hl 3 rfl) ?_
      refine lv_iconst (v := nI 0) hx hb dX8_grownRoot_80 (by decide) ?_
      refine mm_top (y := mm_b false) rfl ?_
      refine lv_iconst (v := nI 2) hx hb dX8_grownRoot_81 (by decide) ?_
      refine mm_ri (va_runV (As := [.int (mm_b false), .int (nI 2)]) (rest := []) ⟨hx, hb, hml, hown, hts⟩ (t_makeNode l (S := (cpy S (hf (s_len S v)) none 0 its).2) hT (TRu (by decide) (TRu (by decide) hR)) hW2 (by omega) (by omega)) (cwV 2 hts (lw_V q2460 q2462 qs57 q164 q2463) rfl rfl rfl (by decide +kernel) ⟨Nat.le_of_ble_eq_true rfl, Nat.le_of_ble_eq_true rfl⟩) (mm_pV hKK (mm_rc hKK hT.2.1 mm_le.rf rfl)) rfl rfl hl.1 rfl (lv_room (Nat.le_of_ble_eq_true rfl)) dX8_grownRoot_82 ⟨Nat.le_of_ble_eq_true rfl, Nat.le_of_ble_eq_true rfl⟩) hS (mm_sS hS) (fun H_82 L_82 hB_82 hz_82 hq_82 hS => ?_)
      obtain ⟨F_82, hT, he_82, hR⟩ := hB_82
      exact mm_iret (v := nI (s_nn (cpy S (hf (s_len S v)) none 0 its).2)) hx hb hr hlk hS (Nat.le_of_ble_eq_true rfl) (Nat.le_of_ble_eq_true rfl) (⟨by rw [appT_2 c_14 (by omega)], F_82, hT, he_55.tr ((eqx.u (by decide)).tr ((eqx.u (by decide)).tr (he_82.mono (by decide)))), by rw [appT_2 c_14 (by omega)]; exact TR_addN_congr hR (fun i hi => gr_e hi)⟩) dX8_grownRoot_85
    · refine lv_aload_n hx hb dX8_grownRoot_35 rfl (lv_at hl 2 rfl) ?_
      refine lv_aload_n hx hb dX8_grownRoot_36 rfl (lv_at hl 2 rfl) ?_
      refine lv_iload_n hx hb dX8_grownRoot_37 rfl (lv_at hl 3 rfl) ?_
      refine mm_rpu (va_runV (As := [.int (nI v)]) (rest := [.ref x]) ⟨hx, hb, hml, hown, hts⟩ (t_root l hT hR hW (by first | assumption | omega)) (cwV 1 hts (lw_V q2729 q2731 qs85 q164 q2732) rfl rfl rfl (by decide +kernel) ⟨Nat.le_of_ble_eq_true rfl, Nat.le_of_ble_eq_true rfl⟩) (mm_pV hKK (mm_rc hKK hT.2.1 mm_le.rf rfl)) rfl rfl hl.1 rfl (lv_room (Nat.le_of_ble_eq_true rfl)) dX8_grownRoot_38 ⟨Nat.le_of_ble_eq_true rfl, Nat.le_of_ble_eq_true rfl⟩) hS (mm_s0 hS) (fun L_38 hS => ?_)
      have g := hRg v hv hl9
      unfold RgV at g
      have hex : exT S (hf (s_len S v)) (s_root S v) (s_len S v) := regO_exT g (by omega) c_32
      refine lv_iload hx hb dX8_grownRoot_41 (lv_at hl 0 rfl) ?_
      refine lv_iload_n hx hb dX8_grownRoot_43 rfl (lv_at hl 1 rfl) ?_
      refine lv_iload_n hx hb dX8_grownRoot_44 rfl (lv_at hl 4 rfl) ?_
      refine mm_ri (va_runV (As := [.int (oI (s_root S v)), .int (nI (hf (s_len S v))), .int (nI (s_len S v)), .int its]) (rest := []) ⟨hx, hb, hml, hown, hts⟩ (t_extended l (hf (s_len S v)) hT hR hW (o := s_root S v) (fun r' hr => by rw [hr9] at hr; cases hr; exact hhg) hex (by omega) (by omega) (by omega)) (cwV 4 hts (lw_V q2769 q2771 qs95 q164 q2772) rfl rfl rfl (by decide +kernel) ⟨by simp only [mm_rm]; omega, by simp only [mm_rm]; omega⟩) (mm_pV hKK (mm_rc hKK hT.2.1 mm_le.rf rfl)) rfl rfl hl.1 rfl (lv_room (Nat.le_of_ble_eq_true rfl)) dX8_grownRoot_45 ⟨Nat.le_of_ble_eq_true rfl, Nat.le_of_ble_eq_true rfl⟩) hS (mm_sS hS) (fun H_45 L_45 hB_45 hz_45 hq_45 hS => ?_)
      obtain ⟨F_45, hT, he_45, hR⟩ := hB_45
      exact mm_iret (v := nI ((cpy S (hf (s_len S v)) (s_root S v) (s_len S v) its).1)) hx hb hr hlk hS (Nat.le_of_ble_eq_true rfl) (Nat.le_of_ble_eq_true rfl) (⟨by rw [appT_1 c_14 c_32], F_45, hT, he_45, by rw [appT_1 c_14 c_32]; exact hR⟩) dX8_grownRoot_48
  · refine lv_aload_n hx hb dX8_grownRoot_17 rfl (lv_at hl 2 rfl) ?_
    refine lv_iconst (v := (-1)) hx hb dX8_grownRoot_18 (by decide) ?_
    refine lv_iconst (v := nI 1) hx hb dX8_grownRoot_19 (by decide) ?_
    refine lv_iconst (v := nI 0) hx hb dX8_grownRoot_20 (by decide) ?_
    refine lv_iload_n hx hb dX8_grownRoot_21 rfl (lv_at hl 4 rfl) ?_
    refine mm_ri (va_runV (As := [.int ((-1)), .int (nI 1), .int (nI 0), .int its]) (rest := []) ⟨hx, hb, hml, hown, hts⟩ (t_extended l 1 hT hR hW (o := none) (fun r hr => by cases hr) (exT_0 0) (by omega) (by omega) (by omega)) (cwV 4 hts (lw_V q2769 q2771 qs95 q164 q2772) rfl rfl rfl (by decide +kernel) ⟨by simp only [mm_rm]; omega, by simp only [mm_rm]; omega⟩) (mm_pV hKK (mm_rc hKK hT.2.1 mm_le.rf rfl)) rfl rfl hl.1 rfl (lv_room (Nat.le_of_ble_eq_true rfl)) dX8_grownRoot_22 ⟨Nat.le_of_ble_eq_true rfl, Nat.le_of_ble_eq_true rfl⟩) hS (mm_sS hS) (fun H_22 L_22 hB_22 hz_22 hq_22 hS => ?_)
    obtain ⟨F_22, hT, he_22, hR⟩ := hB_22
    exact mm_iret (v := nI ((cpy S 1 none 0 its).1)) hx hb hr hlk hS (Nat.le_of_ble_eq_true rfl) (Nat.le_of_ble_eq_true rfl) (⟨by rw [appT_0 c_14], F_22, hT, he_22, by rw [appT_0 c_14]; exact hR⟩) dX8_grownRoot_25
set_option maxRecDepth 100000 in
theorem t_makeAppend (l : Launch) {G : mm_G} {P : mm_H} {H : Heap} {x : Nat} {ad : Nat → Nat} {I : Nat → Int32} {F : Nat → Nat → Int32} {S : sp_S} {v : Nat} {its : Int32} (hT : TW G x ad I F H) (hR : TR (F 0) S) (hW : WF S) (hRg : RG S) (hv : v < s_nv S) (hl9 : s_rel S v = false) (hv9 : s_nv S < 40) (hnn9 : s_nn S + 4 ≤ 190) (hi9 : s_len S v < 64) : Mt l yX8_makeAppend (ws_ yX8_makeAppend cX8_makeAppend 7 (some .int)) 16 1200 0 0 G P [.ref x, .int (nI v), .int its] H (tw_M x ad) (mm_i (nI (s_nv S)) (fun H2 => ∃ F2, TW G x ad I F2 H2 ∧ eqx [0, 7] F F2 ∧ TR (F2 0) (appOp S v its))) := by
  refine Mt.of (by decide) (Nat.le_of_ble_eq_true rfl) (fun p e s m below meth c ls hx hb hr hlk hml hown hnm hts hKK hsH hl hS => ?_)
  have hl : lv_has ls 7 [(0, .ref x), (1, .int (nI v)), (2, .int its)] := hl
  have hR0 := hR
  have hMx : mm_A (tw_M x ad) H x := Or.inl (Or.inl rfl)
  have hMa : ∀ j, tw_isA j = true → mm_A (tw_M x ad) H (ad j) := fun j hj => Or.inl (Or.inr ⟨j, hj, rfl⟩)
  have hnv := hW.nv
  have hnn := hW.nn
  have hlv := hW.len hv
  have hx1 : exN S S := exN.rf
  refine lv_aload_n hx hb dX8_makeAppend_0 rfl (lv_at hl 0 rfl) ?_
  refine tw_geta 0 hx hb hts hown hKK hT rfl rfl (hts _ q2498) dX8_makeAppend_1 ?_
  refine lv_iconst (v := nI 1) hx hb dX8_makeAppend_4 (by decide) ?_
  refine mm_iald (k := 1) hx hb hKK (hT.2.2 0 rfl) mm_le.rf (by show _ < 4210; omega) (by decide) dX8_makeAppend_5 ?_
  refine mm_top (y := nI (s_nn S)) (hR.nn) ?_
  refine lv_istore_n (lv' := [(3, .int (nI (s_nn S))), (0, .ref x), (1, .int (nI v)), (2, .int its)]) hx hb dX8_makeAppend_6 rfl hl (by decide) rfl (fun ls hl => ?_)
  refine lv_aload_n hx hb dX8_makeAppend_7 rfl (lv_at hl 1 rfl) ?_
  refine lv_iload_n hx hb dX8_makeAppend_8 rfl (lv_at hl 2 rfl) ?_
  refine mm_rpu (va_runV (As := [.int (nI v)]) (rest := []) ⟨hx, hb, hml, hown, hts⟩ (t_lengthOf l hT hR hW (by first | assumption | omega)) (cwV 1 hts (lw_V q2487 q2489 qs60 q164 q2490) rfl rfl rfl (by decide +kernel) ⟨Nat.le_of_ble_eq_true rfl, Nat.le_of_ble_eq_true rfl⟩) (mm_pV hKK (mm_rc hKK hT.2.1 mm_le.rf rfl)) rfl rfl hl.1 rfl (lv_room (Nat.le_of_ble_eq_true rfl)) dX8_makeAppend_9 ⟨Nat.le_of_ble_eq_true rfl, Nat.le_of_ble_eq_true rfl⟩) hS (mm_s0 hS) (fun L_9 hS => ?_)
  refine lv_istore (lv' := [(4, .int (nI (s_len S v))), (3, .int (nI (s_nn S))), (0, .ref x), (1, .int (nI v)), (2, .int its)]) hx hb dX8_makeAppend_12 hl (by decide) rfl (fun ls hl => ?_)
  refine lv_aload_n hx hb dX8_makeAppend_14 rfl (lv_at hl 2 rfl) ?_
  refine lv_iload_n hx hb dX8_makeAppend_15 rfl (lv_at hl 3 rfl) ?_
  refine lv_iload_n hx hb dX8_makeAppend_16 rfl (lv_at hl 4 rfl) ?_
  refine mm_ri (va_runV (As := [.int (nI v), .int its]) (rest := []) ⟨hx, hb, hml, hown, hts⟩ (t_grownRoot l hT hR hW hRg hv hl9 hv9 hnn9 hi9) (cwV 2 hts (lw_V q2765 q2767 qs94 q164 q2768) rfl rfl rfl (by decide +kernel) ⟨Nat.le_of_ble_eq_true rfl, Nat.le_of_ble_eq_true rfl⟩) (mm_pV hKK (mm_rc hKK hT.2.1 mm_le.rf rfl)) rfl rfl hl.1 rfl (lv_room (Nat.le_of_ble_eq_true rfl)) dX8_makeAppend_17 ⟨Nat.le_of_ble_eq_true rfl, Nat.le_of_ble_eq_true rfl⟩) hS (mm_sS hS) (fun H_17 L_17 hB_17 hz_17 hq_17 hS => ?_)
  obtain ⟨F_17, hT, he_17, hR⟩ := hB_17
  obtain ⟨hx1, hx2, hW, -⟩ := appT_ex (its := its) hW (hRg v hv hl9) hi9 (by omega)
  obtain ⟨T, hTd⟩ : ∃ T, T = (appT S v its).2 := ⟨_, rfl⟩
  rw [← hTd] at hR hx1 hW
  have hx1v := hx1.1
  refine lv_istore (lv' := [(5, .int (nI ((appT S v its).1))), (4, .int (nI (s_len S v))), (3, .int (nI (s_nn S))), (0, .ref x), (1, .int (nI v)), (2, .int its)]) hx hb dX8_makeAppend_20 hl (by decide) rfl (fun ls hl => ?_)
  refine lv_aload_n hx hb dX8_makeAppend_22 rfl (lv_at hl 3 rfl) ?_
  refine lv_iload_n hx hb dX8_makeAppend_23 rfl (lv_at hl 4 rfl) ?_
  refine lv_iload hx hb dX8_makeAppend_24 (lv_at hl 1 rfl) ?_
  refine lv_iconst (v := nI 1) hx hb dX8_makeAppend_26 (by decide) ?_
  refine mm_iadd hx hb dX8_makeAppend_27 ?_
  refine lv_iload hx hb dX8_makeAppend_28 (lv_at hl 0 rfl) ?_
  refine lv_iload_n hx hb dX8_makeAppend_30 rfl (lv_at hl 2 rfl) ?_
  refine mm_ri (va_runV (As := [.int (nI v), .int (nI (s_len S v + 1)), .int (nI ((appT S v its).1)), .int (nI (s_nn S))]) (rest := []) ⟨hx, hb, hml, hown, hts⟩ (t_addVersion l (S := T) (par := some v) (root := (some ((appT S v its).1))) hT hR hW (by rw [hx1.1]; exact hv9) (by omega) (fun r hr => by cases hr; rw [hx1.1]; exact hv) hx1.2.2.1) (cwV 4 hts (lw_V q2474 q2476 qs59 q164 q2477) rfl rfl rfl (by decide +kernel) ⟨Nat.le_of_ble_eq_true rfl, Nat.le_of_ble_eq_true rfl⟩) (mm_pV hKK (mm_rc hKK hT.2.1 mm_le.rf rfl)) rfl rfl hl.1 rfl (lv_room (Nat.le_of_ble_eq_true rfl)) dX8_makeAppend_31 ⟨Nat.le_of_ble_eq_true rfl, Nat.le_of_ble_eq_true rfl⟩) hS (mm_sS hS) (fun H_31 L_31 hB_31 hz_31 hq_31 hS => ?_)
  obtain ⟨F_31, hT, he_31, hR⟩ := hB_31
  refine lv_istore (lv' := [(6, .int (nI (s_nv T))), (5, .int (nI ((appT S v its).1))), (4, .int (nI (s_len S v))), (3, .int (nI (s_nn S))), (0, .ref x), (1, .int (nI v)), (2, .int its)]) hx hb dX8_makeAppend_34 hl (by decide) rfl (fun ls hl => ?_)
  refine lv_aload_n hx hb dX8_makeAppend_36 rfl (lv_at hl 4 rfl) ?_
  refine tw_geta 0 hx hb hts hown hKK hT rfl rfl (hts _ q2498) dX8_makeAppend_37 ?_
  refine lv_iload hx hb dX8_makeAppend_40 (lv_at hl 0 rfl) ?_
  refine mm_rpu (va_runS (As := [.int (nI (s_nv T))]) (rest := [.ref (ad 0)]) ⟨hx, hb, hml, hown, hts⟩ (t_e l ) (va_cwS 1 hts (lw_S q2491 q2492 q164 q2493) rfl rfl rfl (by decide +kernel) ⟨Nat.le_of_ble_eq_true rfl, Nat.le_of_ble_eq_true rfl⟩) (mm_pS hKK) rfl rfl hl.1 rfl (lv_room (Nat.le_of_ble_eq_true rfl)) dX8_makeAppend_42 ⟨Nat.le_of_ble_eq_true rfl, Nat.le_of_ble_eq_true rfl⟩) hS (mm_s0 hS) (fun L_42 hS => ?_)
  refine lv_iload hx hb dX8_makeAppend_45 (lv_at hl 2 rfl) ?_
  refine mm_iadd hx hb dX8_makeAppend_47 ?_
  refine lv_iload_n hx hb dX8_makeAppend_48 rfl (lv_at hl 6 rfl) ?_
  refine tw_st 0 (k := (250 + 64 * (s_nv T) + s_len S v)) hx hb hKK hT hS hMa rfl rfl (by show _ < 4210; omega) dX8_makeAppend_49 (fun H_49 L_49 hT hz_49 hq_49 hS => ?_)
  refine lv_iload hx hb dX8_makeAppend_50 (lv_at hl 0 rfl) ?_
  exact mm_iret (v := nI (s_nv T)) hx hb hr hlk hS (Nat.le_of_ble_eq_true rfl) (Nat.le_of_ble_eq_true rfl) (⟨by rw [hx1.1], _, hT, he_17.tr ((he_31.mono (by decide)).tr (eqx.u (by decide))), by rw [← appOp_eq hTd hx1]; exact TR_setE hW (by rw [hx1.1]; exact hv9) hi9 hR⟩) dX8_makeAppend_52
set_option maxRecDepth 100000 in
theorem t_cutRoot (l : Launch) {G : mm_G} {P : mm_H} {H : Heap} {x : Nat} {ad : Nat → Nat} {I : Nat → Int32} {F : Nat → Nat → Int32} {S : sp_S} {v n : Nat} (hT : TW G x ad I F H) (hR : TR (F 0) S) (hW : WF S) (hRg : RG S) (hv : v < s_nv S) (hl9 : s_rel S v = false) (hv9 : s_nv S < 40) (hnn9 : s_nn S + 4 ≤ 190) (hi9 : n ≤ s_len S v) : Mt l yX8_cutRoot (ws_ yX8_cutRoot cX8_cutRoot 5 (some .int)) 14 1000 0 0 G P [.ref x, .int (nI v), .int (nI n)] H (tw_M x ad) (mm_i (oI (cutT S v n).1) (fun H2 => ∃ F2, TW G x ad I F2 H2 ∧ eqx [0, 7] F F2 ∧ TR (F2 0) (cutT S v n).2)) := by
  refine Mt.of (by decide) (Nat.le_of_ble_eq_true rfl) (fun p e s m below meth c ls hx hb hr hlk hml hown hnm hts hKK hsH hl hS => ?_)
  have hl : lv_has ls 5 [(0, .ref x), (1, .int (nI v)), (2, .int (nI n))] := hl
  have hR0 := hR
  have hMx : mm_A (tw_M x ad) H x := Or.inl (Or.inl rfl)
  have hMa : ∀ j, tw_isA j = true → mm_A (tw_M x ad) H (ad j) := fun j hj => Or.inl (Or.inr ⟨j, hj, rfl⟩)
  have hnv := hW.nv
  have hnn := hW.nn
  have hlv := hW.len hv
  have hhf := hf_le (s_len S v)
  refine lv_iload_n hx hb dX8_cutRoot_0 rfl (lv_at hl 2 rfl) ?_
  refine mm_if_ne (tgt := 6) (by omega) hx hb dX8_cutRoot_1 (by decide) (fun c_1 => ?_) (fun c_1 => ?_)
  · obtain ⟨r, hr9, hreg⟩ := (hRg v hv hl9).some (by omega)
    have hrlt := hhg_lt hreg.hgt
    have hfn := hf_le' hi9
    have hfn0 := hf_pos c_1
    have hf3 := hf_le n
    refine lv_aload_n hx hb dX8_cutRoot_6 rfl (lv_at hl 0 rfl) ?_
    refine lv_iload_n hx hb dX8_cutRoot_7 rfl (lv_at hl 1 rfl) ?_
    refine mm_rpu (va_runV (As := [.int (nI v)]) (rest := []) ⟨hx, hb, hml, hown, hts⟩ (t_root l hT hR hW (by first | assumption | omega)) (cwV 1 hts (lw_V q2729 q2731 qs85 q164 q2732) rfl rfl rfl (by decide +kernel) ⟨Nat.le_of_ble_eq_true rfl, Nat.le_of_ble_eq_true rfl⟩) (mm_pV hKK (mm_rc hKK hT.2.1 mm_le.rf rfl)) rfl rfl hl.1 rfl (lv_room (Nat.le_of_ble_eq_true rfl)) dX8_cutRoot_8 ⟨Nat.le_of_ble_eq_true rfl, Nat.le_of_ble_eq_true rfl⟩) hS (mm_s0 hS) (fun L_8 hS => ?_)
    refine mm_top (y := nI r) (oI_some hr9) ?_
    refine lv_istore_n (lv' := [(3, .int (nI r)), (0, .ref x), (1, .int (nI v)), (2, .int (nI n))]) hx hb dX8_cutRoot_11 rfl hl (by decide) rfl (fun ls hl => ?_)
    refine lv_aload_n hx hb dX8_cutRoot_12 rfl (lv_at hl 1 rfl) ?_
    refine lv_iload_n hx hb dX8_cutRoot_13 rfl (lv_at hl 2 rfl) ?_
    refine mm_rpu (va_runV (As := [.int (nI v)]) (rest := []) ⟨hx, hb, hml, hown, hts⟩ (t_heightOf l hT hR hW (by first | assumption | omega)) (cwV 1 hts (lw_V q2733 q2735 qs86 q164 q2736) rfl rfl rfl (by decide +kernel) ⟨Nat.le_of_ble_eq_true rfl, Nat.le_of_ble_eq_true rfl⟩) (mm_pV hKK (mm_rc hKK hT.2.1 mm_le.rf rfl)) rfl rfl hl.1 rfl (lv_room (Nat.le_of_ble_eq_true rfl)) dX8_cutRoot_14 ⟨Nat.le_of_ble_eq_true rfl, Nat.le_of_ble_eq_true rfl⟩) hS (mm_s0 hS) (fun L_14 hS => ?_)
    refine lv_istore (lv' := [(4, .int (nI (hf (s_len S v)))), (3, .int (nI r)), (0, .ref x), (1, .int (nI v)), (2, .int (nI n))]) hx hb dX8_cutRoot_17 hl (by decide) rfl (fun ls hl => ?_)
    have lp_19 : ∀ (fu : Nat) (d : Nat)  (L : List Loc) (ls : Array Slot), hf (s_len S v) - hf n - d < fu → (d ≤ hf (s_len S v) - hf n) → lv_has ls 5 [(3, .int (nI (fst S d r))), (4, .int (nI (hf (s_len S v) - d))), (0, .ref x), (1, .int (nI v)), (2, .int (nI n))] → va_S (mm_A (tw_M x ad) H) H H L → W p l e (mm_rm 14 1000 0 0) s m ([.ref x, .int (nI v), .int (nI n)] : List Value).toArray below meth c H L 0 0 (MQ below (mm_Qc H (tw_M x ad) (mm_i (oI (cutT S v n).1) (fun H2 => ∃ F2, TW G x ad I F2 H2 ∧ eqx [0, 7] F F2 ∧ TR (F2 0) (cutT S v n).2))) ([.ref x, .int (nI v), .int (nI n)] : List Value).toArray s 0 0 (mm_A (tw_M x ad) H)) (F0 m 19 ls []) := by
      intro fu; induction fu with
      | zero => intro d L ls hfu; exact absurd hfu (Nat.not_lt_zero _)
      | succ fu ih =>
        intro d L ls hfu hd hl  hS
        have ih_19 := ih
        have hfr := fst_reg hreg (d := d) (by omega)
        have hfl := hhg_lt hfr.hgt
        refine lv_iload hx hb dX8_cutRoot_19 (lv_at hl 1 rfl) ?_
        refine lv_iload_n hx hb dX8_cutRoot_21 rfl (lv_at hl 4 rfl) ?_
        refine mm_rpu (va_runS (As := [.int (nI n)]) (rest := [.int (nI (hf (s_len S v) - d))]) ⟨hx, hb, hml, hown, hts⟩ (t_heightFor l (by omega)) (va_cwS 1 hts (lw_S q2481 q2482 q164 q2483) rfl rfl rfl (by decide +kernel) ⟨Nat.le_of_ble_eq_true rfl, Nat.le_of_ble_eq_true rfl⟩) (mm_pS hKK) rfl rfl hl.1 rfl (lv_room (Nat.le_of_ble_eq_true rfl)) dX8_cutRoot_22 ⟨Nat.le_of_ble_eq_true rfl, Nat.le_of_ble_eq_true rfl⟩) hS (mm_s0 hS) (fun L_22 hS => ?_)
        refine mm_icmp_le (tgt := 41) (by omega) (by omega) hx hb dX8_cutRoot_25 (by decide) (fun c_25 => ?_) (fun c_25 => ?_)
        · refine lv_aload_n hx hb dX8_cutRoot_41 rfl (lv_at hl 2 rfl) ?_
          refine lv_iload_n hx hb dX8_cutRoot_42 rfl (lv_at hl 0 rfl) ?_
          refine lv_iload_n hx hb dX8_cutRoot_43 rfl (lv_at hl 4 rfl) ?_
          refine mm_rpu (va_runS (As := [.int (nI n)]) (rest := [.int (nI (fst S d r)), .ref x]) ⟨hx, hb, hml, hown, hts⟩ (t_heightFor l (by omega)) (va_cwS 1 hts (lw_S q2481 q2482 q164 q2483) rfl rfl rfl (by decide +kernel) ⟨Nat.le_of_ble_eq_true rfl, Nat.le_of_ble_eq_true rfl⟩) (mm_pS hKK) rfl rfl hl.1 rfl (lv_room (Nat.le_of_ble_eq_true rfl)) dX8_cutRoot_44 ⟨Nat.le_of_ble_eq_true rfl, Nat.le_of_ble_eq_true rfl⟩) hS (mm_s0 hS) (fun L_44 hS => ?_)
          refine lv_iload_n hx hb dX8_cutRoot_47 rfl (lv_at hl 4 rfl) ?_
          have hdd : hf (s_len S v) - hf n = d := by omega
          have hcu := fst_at hreg c_1 hi9
          rw [hdd] at hcu
          have h64 := hf_p4 (show n ≤ 64 by omega)
          refine mm_ri (va_runV (As := [.int (nI (fst S d r)), .int (nI (hf n)), .int (nI n)]) (rest := []) ⟨hx, hb, hml, hown, hts⟩ (t_cut l (hf n) hT hR hW hcu.hgt (hcu.cuT (by omega) (by omega)) (by omega) (by omega) (by omega)) (cwV 3 hts (lw_V q2785 q2787 qs99 q164 q2788) rfl rfl rfl (by decide +kernel) ⟨by simp only [mm_rm]; omega, by simp only [mm_rm]; omega⟩) (mm_pV hKK (mm_rc hKK hT.2.1 mm_le.rf rfl)) rfl rfl hl.1 rfl (lv_room (Nat.le_of_ble_eq_true rfl)) dX8_cutRoot_48 ⟨Nat.le_of_ble_eq_true rfl, Nat.le_of_ble_eq_true rfl⟩) hS (mm_sS hS) (fun H_48 L_48 hB_48 hz_48 hq_48 hS => ?_)
          obtain ⟨F_48, hT, he_48, hR⟩ := hB_48
          exact mm_iret (v := nI ((ctP S (hf n) (fst S d r) n).1)) hx hb hr hlk hS (Nat.le_of_ble_eq_true rfl) (Nat.le_of_ble_eq_true rfl) (⟨by rw [cutT_1 c_1 hr9, hdd]; rfl, F_48, hT, he_48, by rw [cutT_1 c_1 hr9, hdd]; exact hR⟩) dX8_cutRoot_51
        · have hfa := fst_inner hreg (d := d) (by omega)
          have hfe := hW.ent hfl hfa.1 hfa.2
          refine lv_aload_n hx hb dX8_cutRoot_28 rfl (lv_at hl 2 rfl) ?_
          refine lv_iload_n hx hb dX8_cutRoot_29 rfl (lv_at hl 0 rfl) ?_
          refine lv_iconst (v := nI 0) hx hb dX8_cutRoot_30 (by decide) ?_
          refine mm_rpu (va_runV (As := [.int (nI (fst S d r)), .int (nI 0)]) (rest := []) ⟨hx, hb, hml, hown, hts⟩ (t_entry l hT hR hW (by first | assumption | omega) (by first | assumption | omega)) (cwV 2 hts (lw_V q2753 q2755 qs91 q164 q2756) rfl rfl rfl (by decide +kernel) ⟨Nat.le_of_ble_eq_true rfl, Nat.le_of_ble_eq_true rfl⟩) (mm_pV hKK (mm_rc hKK hT.2.1 mm_le.rf rfl)) rfl rfl hl.1 rfl (lv_room (Nat.le_of_ble_eq_true rfl)) dX8_cutRoot_31 ⟨Nat.le_of_ble_eq_true rfl, Nat.le_of_ble_eq_true rfl⟩) hS (mm_s0 hS) (fun L_31 hS => ?_)
          refine mm_top (y := nI (fst S (d + 1) r)) (hfe.1) ?_
          refine lv_istore_n (lv' := [(3, .int (nI (fst S (d + 1) r))), (4, .int (nI (hf (s_len S v) - d))), (0, .ref x), (1, .int (nI v)), (2, .int (nI n))]) hx hb dX8_cutRoot_34 rfl hl (by decide) rfl (fun ls hl => ?_)
          refine lv_iinc (v := nI ((hf (s_len S v) - d) - 1)) (lv' := [(4, .int (nI ((hf (s_len S v) - d) - 1))), (3, .int (nI (fst S (d + 1) r))), (0, .ref x), (1, .int (nI v)), (2, .int (nI n))]) hx hb dX8_cutRoot_35 hl (k := 1) rfl (mm_decr (by omega)) (by decide) rfl (fun ls hl => ?_)
          rw [show (hf (s_len S v) - d) - 1 = hf (s_len S v) - (d + 1) by omega] at hl
          refine lv_goto (tgt := 19) hx hb dX8_cutRoot_38 (by decide) ?_
          exact ih_19 (d + 1) _ _ (by omega) (by omega) (lv_sub hl [1, 0, 2, 3, 4] rfl)  hS
    exact lp_19 _ 0 _ _ (Nat.lt_succ_self _) (by omega) (lv_sub hl [1, 0, 2, 3, 4] rfl)  hS
  · refine lv_iconst (v := (-1)) hx hb dX8_cutRoot_4 (by decide) ?_
    exact mm_iret (v := (-1)) hx hb hr hlk hS (Nat.le_of_ble_eq_true rfl) (Nat.le_of_ble_eq_true rfl) (⟨by rw [cutT_0 c_1]; rfl, F, hT, eqx.rf, by rw [cutT_0 c_1]; exact hR⟩) dX8_cutRoot_5
set_option maxRecDepth 100000 in
theorem t_makeTruncate (l : Launch) {G : mm_G} {P : mm_H} {H : Heap} {x : Nat} {ad : Nat → Nat} {I : Nat → Int32} {F : Nat → Nat → Int32} {S : sp_S} {v n : Nat} (hT : TW G x ad I F H) (hR : TR (F 0) S) (hW : WF S) (hRg : RG S) (hv : v < s_nv S) (hl9 : s_rel S v = false) (hv9 : s_nv S < 40) (hnn9 : s_nn S + 4 ≤ 190) (hi9 : n ≤ s_len S v) : Mt l yX8_makeTruncate (ws_ yX8_makeTruncate cX8_makeTruncate 4 (some .int)) 16 1200 0 0 G P [.ref x, .int (nI v), .int (nI n)] H (tw_M x ad) (mm_i (nI (s_nv S)) (fun H2 => ∃ F2, TW G x ad I F2 H2 ∧ eqx [0, 7] F F2 ∧ TR (F2 0) (cutOp S v n))) := by
  refine Mt.of (by decide) (Nat.le_of_ble_eq_true rfl) (fun p e s m below meth c ls hx hb hr hlk hml hown hnm hts hKK hsH hl hS => ?_)
  have hl : lv_has ls 4 [(0, .ref x), (1, .int (nI v)), (2, .int (nI n))] := hl
  have hR0 := hR
  have hMx : mm_A (tw_M x ad) H x := Or.inl (Or.inl rfl)
  have hMa : ∀ j, tw_isA j = true → mm_A (tw_M x ad) H (ad j) := fun j hj => Or.inl (Or.inr ⟨j, hj, rfl⟩)
  have hnv := hW.nv
  have hnn := hW.nn
  have hlv := hW.len hv
  refine lv_aload_n hx hb dX8_makeTruncate_0 rfl (lv_at hl 0 rfl) ?_
  refine tw_geta 0 hx hb hts hown hKK hT rfl rfl (hts _ q2498) dX8_makeTruncate_1 ?_
  refine lv_iconst (v := nI 1) hx hb dX8_makeTruncate_4 (by decide) ?_
  refine mm_iald (k := 1) hx hb hKK (hT.2.2 0 rfl) mm_le.rf (by show _ < 4210; omega) (by decide) dX8_makeTruncate_5 ?_
  refine mm_top (y := nI (s_nn S)) (hR.nn) ?_
  refine lv_istore_n (lv' := [(3, .int (nI (s_nn S))), (0, .ref x), (1, .int (nI v)), (2, .int (nI n))]) hx hb dX8_makeTruncate_6 rfl hl (by decide) rfl (fun ls hl => ?_)
  refine lv_aload_n hx hb dX8_makeTruncate_7 rfl (lv_at hl 1 rfl) ?_
  refine lv_iload_n hx hb dX8_makeTruncate_8 rfl (lv_at hl 2 rfl) ?_
  refine lv_iload_n hx hb dX8_makeTruncate_9 rfl (lv_at hl 3 rfl) ?_
  refine lv_aload_n hx hb dX8_makeTruncate_10 rfl (lv_at hl 1 rfl) ?_
  refine lv_iload_n hx hb dX8_makeTruncate_11 rfl (lv_at hl 2 rfl) ?_
  refine lv_iload_n hx hb dX8_makeTruncate_12 rfl (lv_at hl 3 rfl) ?_
  refine mm_ri (va_runV (As := [.int (nI v), .int (nI n)]) (rest := [.int (nI n), .int (nI v), .ref x]) ⟨hx, hb, hml, hown, hts⟩ (t_cutRoot l hT hR hW hRg hv hl9 hv9 hnn9 hi9) (cwV 2 hts (lw_V q2781 q2783 qs98 q164 q2784) rfl rfl rfl (by decide +kernel) ⟨Nat.le_of_ble_eq_true rfl, Nat.le_of_ble_eq_true rfl⟩) (mm_pV hKK (mm_rc hKK hT.2.1 mm_le.rf rfl)) rfl rfl hl.1 rfl (lv_room (Nat.le_of_ble_eq_true rfl)) dX8_makeTruncate_13 ⟨Nat.le_of_ble_eq_true rfl, Nat.le_of_ble_eq_true rfl⟩) hS (mm_sS hS) (fun H_13 L_13 hB_13 hz_13 hq_13 hS => ?_)
  obtain ⟨F_13, hT, he_13, hR⟩ := hB_13
  obtain ⟨hx1, hx2, hW, -⟩ := cutT_ex hW (hRg v hv hl9) hi9 hlv (by omega)
  obtain ⟨T, hTd⟩ : ∃ T, T = (cutT S v n).2 := ⟨_, rfl⟩
  rw [← hTd] at hR hx1 hW
  have hx1v := hx1.1
  refine lv_iload_n hx hb dX8_makeTruncate_16 rfl (lv_at hl 0 rfl) ?_
  refine mm_ri (va_runV (As := [.int (nI v), .int (nI n), .int (oI ((cutT S v n).1)), .int (nI (s_nn S))]) (rest := []) ⟨hx, hb, hml, hown, hts⟩ (t_addVersion l (S := T) (par := some v) (root := ((cutT S v n).1)) hT hR hW (by rw [hx1.1]; exact hv9) (by omega) (fun r hr => by cases hr; rw [hx1.1]; exact hv) hx1.2.2.1) (cwV 4 hts (lw_V q2474 q2476 qs59 q164 q2477) rfl rfl rfl (by decide +kernel) ⟨Nat.le_of_ble_eq_true rfl, Nat.le_of_ble_eq_true rfl⟩) (mm_pV hKK (mm_rc hKK hT.2.1 mm_le.rf rfl)) rfl rfl hl.1 rfl (lv_room (Nat.le_of_ble_eq_true rfl)) dX8_makeTruncate_17 ⟨Nat.le_of_ble_eq_true rfl, Nat.le_of_ble_eq_true rfl⟩) hS (mm_sS hS) (fun H_17 L_17 hB_17 hz_17 hq_17 hS => ?_)
  obtain ⟨F_17, hT, he_17, hR⟩ := hB_17
  exact mm_iret (v := nI (s_nv T)) hx hb hr hlk hS (Nat.le_of_ble_eq_true rfl) (Nat.le_of_ble_eq_true rfl) (⟨by rw [hx1.1], _, hT, he_13.tr (he_17.mono (by decide)), by rw [← cutOp_eq hTd hx1]; exact hR⟩) dX8_makeTruncate_20
