/-! the twin: set, append, truncate (printed by tools/tw15.py) -/
set_option maxRecDepth 100000 in
theorem tm_set (l : Launch) {G : mm_G} {P : mm_H} {H : Heap} {x : Nat} {ad : Nat → Nat} {I : Nat → Int32} {F : Nat → Nat → Int32} {S : sp_S} {k : Nat} {a b v : Int32} (hT : TW G x ad I F H) (hR : TR (F 0) S) (hW : WF S) (hk4 : I 4 = nI k) (hk8 : k ≤ 8) (hRg : RG S) (hnn9 : s_nn S + 4 ≤ 190) : Mt l yX8_set (ws_ yX8_set cX8_set 6 (some .int)) 18 1300 0 0 G P [.ref x, .int a, .int b, .int v] H (tw_M x ad) (mm_i (qv (fcS S a b v) (nI (s_nv S))) (fun H2 => ∃ I2 F2, TW G x ad I2 F2 H2 ∧ (if (fcS S a b v) = true then ((exI [4] (upd I 6 (ck (hasE S a b) (inV v) (fcS S a b v))) I2 ∧ I2 4 = nI (min k 7 + 1)) ∧ (∀ j, j < 4210 → F2 3 (4210 * min k 7 + j) = F 0 j) ∧ (∀ j, j < 4210 * min k 7 → F2 3 j = F 3 (j + (if k = 8 then 4210 else 0)))) ∧ eqx [0, 3, 7] F F2 ∧ TR (F2 0) (setOp S a.toNatClampNeg b.toNatClampNeg v) else I2 = upd I 6 (ck (hasE S a b) (inV v) (fcS S a b v)) ∧ F2 = F))) := by
  refine Mt.of (by decide) (Nat.le_of_ble_eq_true rfl) (fun p e s m below meth c ls hx hb hr hlk hml hown hnm hts hKK hsH hl hS => ?_)
  have hl : lv_has ls 6 [(0, .ref x), (1, .int a), (2, .int b), (3, .int v)] := hl
  have hR0 := hR
  have hMx : mm_A (tw_M x ad) H x := Or.inl (Or.inl rfl)
  have hMa : ∀ j, tw_isA j = true → mm_A (tw_M x ad) H (ad j) := fun j hj => Or.inl (Or.inr ⟨j, hj, rfl⟩)
  have hnv := hW.nv
  have hnn := hW.nn
  refine lv_aload_n hx hb dX8_set_0 rfl (lv_at hl 0 rfl) ?_
  refine lv_iload_n hx hb dX8_set_1 rfl (lv_at hl 1 rfl) ?_
  refine lv_iload_n hx hb dX8_set_2 rfl (lv_at hl 2 rfl) ?_
  refine mm_rpu (va_runV (As := [.int a, .int b]) (rest := []) ⟨hx, hb, hml, hown, hts⟩ (t_hasElement l hT hR hW) (cwV 2 hts (lw_V q2889 q2891 qs114 q164 q2892) rfl rfl rfl (by decide +kernel) ⟨Nat.le_of_ble_eq_true rfl, Nat.le_of_ble_eq_true rfl⟩) (mm_pV hKK (mm_rc hKK hT.2.1 mm_le.rf rfl)) rfl rfl hl.1 rfl (lv_room (Nat.le_of_ble_eq_true rfl)) dX8_set_3 ⟨Nat.le_of_ble_eq_true rfl, Nat.le_of_ble_eq_true rfl⟩) hS (mm_s0 hS) (fun L_3 hS => ?_)
  refine lv_istore (lv' := [(4, .int (mm_b (hasE S a b))), (0, .ref x), (1, .int a), (2, .int b), (3, .int v)]) hx hb dX8_set_6 hl (by decide) rfl (fun ls hl => ?_)
  refine lv_iload_n hx hb dX8_set_8 rfl (lv_at hl 4 rfl) ?_
  refine lv_i2l (v := v.toInt64) hx hb dX8_set_9 rfl ?_
  refine lv_ldc2 (v := (-999)) hx hb hown (hts _ q3005) dX8_set_10 ?_
  refine lv_ldc2 (v := 999) hx hb hown (hts _ q3006) dX8_set_13 ?_
  refine mm_rpu (va_runS (As := [.long v.toInt64, .long ((-999)), .long 999]) (rest := []) ⟨hx, hb, hml, hown, hts⟩ (t_isWithin l ) (va_cwS 3 hts (lw_S q2599 q2600 q164 q2601) rfl rfl rfl (by decide +kernel) ⟨Nat.le_of_ble_eq_true rfl, Nat.le_of_ble_eq_true rfl⟩) (mm_pS hKK) rfl rfl hl.1 rfl (lv_room (Nat.le_of_ble_eq_true rfl)) dX8_set_16 ⟨Nat.le_of_ble_eq_true rfl, Nat.le_of_ble_eq_true rfl⟩) hS (mm_s0 hS) (fun L_16 hS => ?_)
  refine mm_top (y := mm_b (inV v)) (congrArg mm_b (w_inV v)) ?_
  refine lv_istore (lv' := [(5, .int (mm_b (inV v))), (4, .int (mm_b (hasE S a b))), (0, .ref x), (1, .int a), (2, .int b), (3, .int v)]) hx hb dX8_set_19 hl (by decide) rfl (fun ls hl => ?_)
  refine lv_aload_n hx hb dX8_set_21 rfl (lv_at hl 2 rfl) ?_
  refine lv_iload hx hb dX8_set_22 (lv_at hl 1 rfl) ?_
  refine lv_iload hx hb dX8_set_24 (lv_at hl 0 rfl) ?_
  refine lv_iload hx hb dX8_set_26 (lv_at hl 1 rfl) ?_
  refine mm_ifeqB (tgt := 55) hx hb dX8_set_28 (by decide) (fun c_28 => ?_) (fun c_28 => ?_)
  · refine lv_iconst (v := nI 0) hx hb dX8_set_55 (by decide) ?_
    refine mm_top (y := mm_b false) rfl ?_
    refine mm_ri (va_runV (As := [.int (mm_b (hasE S a b)), .int (mm_b (inV v)), .int (mm_b false)]) (rest := []) ⟨hx, hb, hml, hown, hts⟩ (t_check l hT) (cwV 3 hts (lw_V q2841 q2843 qs110 q164 q2844) rfl rfl rfl (by decide +kernel) ⟨Nat.le_of_ble_eq_true rfl, Nat.le_of_ble_eq_true rfl⟩) (mm_pV hKK (mm_rc hKK hT.2.1 mm_le.rf rfl)) rfl rfl hl.1 rfl (lv_room (Nat.le_of_ble_eq_true rfl)) dX8_set_56 ⟨Nat.le_of_ble_eq_true rfl, Nat.le_of_ble_eq_true rfl⟩) hS (mm_sS hS) (fun H_56 L_56 hT hz_56 hq_56 hS => ?_)
    have h3 : fcS S a b v = false := by unfold fcS; rw [c_28, Bool.false_and, Bool.false_and, Bool.false_and]
    refine mm_top (y := mm_b false) (by rw [Bool.and_false]) ?_
    refine mm_ifneB (tgt := 64) hx hb dX8_set_59 (by decide) (fun c_59 => ?_) (fun c_59 => ?_)
    · exact absurd c_59 (by decide)
    · refine lv_iconst (v := nI 0) hx hb dX8_set_62 (by decide) ?_
      exact mm_iret (v := nI 0) hx hb hr hlk hS (Nat.le_of_ble_eq_true rfl) (Nat.le_of_ble_eq_true rfl) (⟨by rw [qv_f h3]; rfl, _, F, hT, by rw [if_neg (by rw [h3]; decide)]; exact ⟨by rw [h3], rfl⟩⟩) dX8_set_63
  · have hina := hasE_in c_28
    obtain ⟨ja, hja, heja, hcja⟩ := inR_t hina
    have hl : lv_has ls 6 [(5, .int (mm_b (inV v))), (4, .int (mm_b (hasE S a b))), (0, .ref x), (1, .int (nI ja)), (2, .int b), (3, .int v)] := by simpa only [heja] using hl
    refine lv_iload hx hb dX8_set_31 (lv_at hl 0 rfl) ?_
    refine mm_ifeqB (tgt := 55) hx hb dX8_set_33 (by decide) (fun c_33 => ?_) (fun c_33 => ?_)
    · refine lv_iconst (v := nI 0) hx hb dX8_set_55 (by decide) ?_
      refine mm_top (y := mm_b false) rfl ?_
      refine mm_ri (va_runV (As := [.int (mm_b (hasE S a b)), .int (mm_b (inV v)), .int (mm_b false)]) (rest := []) ⟨hx, hb, hml, hown, hts⟩ (t_check l hT) (cwV 3 hts (lw_V q2841 q2843 qs110 q164 q2844) rfl rfl rfl (by decide +kernel) ⟨Nat.le_of_ble_eq_true rfl, Nat.le_of_ble_eq_true rfl⟩) (mm_pV hKK (mm_rc hKK hT.2.1 mm_le.rf rfl)) rfl rfl hl.1 rfl (lv_room (Nat.le_of_ble_eq_true rfl)) dX8_set_56 ⟨Nat.le_of_ble_eq_true rfl, Nat.le_of_ble_eq_true rfl⟩) hS (mm_sS hS) (fun H_56 L_56 hT hz_56 hq_56 hS => ?_)
      have h3 : fcS S a b v = false := by unfold fcS; rw [c_33, Bool.and_false, Bool.false_and, Bool.false_and]
      refine mm_top (y := mm_b false) (by rw [Bool.and_false]) ?_
      refine mm_ifneB (tgt := 64) hx hb dX8_set_59 (by decide) (fun c_59 => ?_) (fun c_59 => ?_)
      · exact absurd c_59 (by decide)
      · refine lv_iconst (v := nI 0) hx hb dX8_set_62 (by decide) ?_
        exact mm_iret (v := nI 0) hx hb hr hlk hS (Nat.le_of_ble_eq_true rfl) (Nat.le_of_ble_eq_true rfl) (⟨by rw [qv_f h3]; rfl, _, F, hT, by rw [if_neg (by rw [h3]; decide)]; exact ⟨by rw [h3], rfl⟩⟩) dX8_set_63
    · refine lv_aload_n hx hb dX8_set_36 rfl (lv_at hl 2 rfl) ?_
      refine lv_iload_n hx hb dX8_set_37 rfl (lv_at hl 3 rfl) ?_
      refine mm_rpu (va_runV (As := [.int (nI ja)]) (rest := [.int (mm_b (inV v)), .int (mm_b (hasE S a b)), .ref x]) ⟨hx, hb, hml, hown, hts⟩ (t_isGone l hT hR hW (by first | assumption | omega)) (cwV 1 hts (lw_V q2717 q2719 qs82 q164 q2720) rfl rfl rfl (by decide +kernel) ⟨Nat.le_of_ble_eq_true rfl, Nat.le_of_ble_eq_true rfl⟩) (mm_pV hKK (mm_rc hKK hT.2.1 mm_le.rf rfl)) rfl rfl hl.1 rfl (lv_room (Nat.le_of_ble_eq_true rfl)) dX8_set_38 ⟨Nat.le_of_ble_eq_true rfl, Nat.le_of_ble_eq_true rfl⟩) hS (mm_s0 hS) (fun L_38 hS => ?_)
      refine mm_ifneB (tgt := 55) hx hb dX8_set_41 (by decide) (fun c_41 => ?_) (fun c_41 => ?_)
      · refine lv_iconst (v := nI 0) hx hb dX8_set_55 (by decide) ?_
        refine mm_top (y := mm_b false) rfl ?_
        refine mm_ri (va_runV (As := [.int (mm_b (hasE S a b)), .int (mm_b (inV v)), .int (mm_b false)]) (rest := []) ⟨hx, hb, hml, hown, hts⟩ (t_check l hT) (cwV 3 hts (lw_V q2841 q2843 qs110 q164 q2844) rfl rfl rfl (by decide +kernel) ⟨Nat.le_of_ble_eq_true rfl, Nat.le_of_ble_eq_true rfl⟩) (mm_pV hKK (mm_rc hKK hT.2.1 mm_le.rf rfl)) rfl rfl hl.1 rfl (lv_room (Nat.le_of_ble_eq_true rfl)) dX8_set_56 ⟨Nat.le_of_ble_eq_true rfl, Nat.le_of_ble_eq_true rfl⟩) hS (mm_sS hS) (fun H_56 L_56 hT hz_56 hq_56 hS => ?_)
        have h3 : fcS S a b v = false := by unfold fcS; rw [c_28, c_33, hcja, c_41]; rfl
        refine mm_top (y := mm_b false) (by rw [Bool.and_false]) ?_
        refine mm_ifneB (tgt := 64) hx hb dX8_set_59 (by decide) (fun c_59 => ?_) (fun c_59 => ?_)
        · exact absurd c_59 (by decide)
        · refine lv_iconst (v := nI 0) hx hb dX8_set_62 (by decide) ?_
          exact mm_iret (v := nI 0) hx hb hr hlk hS (Nat.le_of_ble_eq_true rfl) (Nat.le_of_ble_eq_true rfl) (⟨by rw [qv_f h3]; rfl, _, F, hT, by rw [if_neg (by rw [h3]; decide)]; exact ⟨by rw [h3], rfl⟩⟩) dX8_set_63
      · refine lv_aload_n hx hb dX8_set_44 rfl (lv_at hl 2 rfl) ?_
        refine mm_rpu (va_runV (As := []) (rest := [.int (mm_b (inV v)), .int (mm_b (hasE S a b)), .ref x]) ⟨hx, hb, hml, hown, hts⟩ (t_hasRoom l hT hR hW) (cwV 0 hts (lw_V q2721 q2723 qs83 q164 q2724) rfl rfl rfl (by decide +kernel) ⟨Nat.le_of_ble_eq_true rfl, Nat.le_of_ble_eq_true rfl⟩) (mm_pV hKK (mm_rc hKK hT.2.1 mm_le.rf rfl)) rfl rfl hl.1 rfl (lv_room (Nat.le_of_ble_eq_true rfl)) dX8_set_45 ⟨Nat.le_of_ble_eq_true rfl, Nat.le_of_ble_eq_true rfl⟩) hS (mm_s0 hS) (fun L_45 hS => ?_)
        refine mm_top (y := mm_b (room S)) rfl ?_
        refine mm_ifeqB (tgt := 55) hx hb dX8_set_48 (by decide) (fun c_48 => ?_) (fun c_48 => ?_)
        · refine lv_iconst (v := nI 0) hx hb dX8_set_55 (by decide) ?_
          refine mm_top (y := mm_b false) rfl ?_
          refine mm_ri (va_runV (As := [.int (mm_b (hasE S a b)), .int (mm_b (inV v)), .int (mm_b false)]) (rest := []) ⟨hx, hb, hml, hown, hts⟩ (t_check l hT) (cwV 3 hts (lw_V q2841 q2843 qs110 q164 q2844) rfl rfl rfl (by decide +kernel) ⟨Nat.le_of_ble_eq_true rfl, Nat.le_of_ble_eq_true rfl⟩) (mm_pV hKK (mm_rc hKK hT.2.1 mm_le.rf rfl)) rfl rfl hl.1 rfl (lv_room (Nat.le_of_ble_eq_true rfl)) dX8_set_56 ⟨Nat.le_of_ble_eq_true rfl, Nat.le_of_ble_eq_true rfl⟩) hS (mm_sS hS) (fun H_56 L_56 hT hz_56 hq_56 hS => ?_)
          have h3 : fcS S a b v = false := by unfold fcS; rw [c_48, Bool.and_false]
          refine mm_top (y := mm_b false) (by rw [Bool.and_false]) ?_
          refine mm_ifneB (tgt := 64) hx hb dX8_set_59 (by decide) (fun c_59 => ?_) (fun c_59 => ?_)
          · exact absurd c_59 (by decide)
          · refine lv_iconst (v := nI 0) hx hb dX8_set_62 (by decide) ?_
            exact mm_iret (v := nI 0) hx hb hr hlk hS (Nat.le_of_ble_eq_true rfl) (Nat.le_of_ble_eq_true rfl) (⟨by rw [qv_f h3]; rfl, _, F, hT, by rw [if_neg (by rw [h3]; decide)]; exact ⟨by rw [h3], rfl⟩⟩) dX8_set_63
        · refine lv_iconst (v := nI 1) hx hb dX8_set_51 (by decide) ?_
          refine mm_top (y := mm_b true) rfl ?_
          refine lv_goto (tgt := 56) hx hb dX8_set_52 (by decide) ?_
          refine mm_ri (va_runV (As := [.int (mm_b (hasE S a b)), .int (mm_b (inV v)), .int (mm_b true)]) (rest := []) ⟨hx, hb, hml, hown, hts⟩ (t_check l hT) (cwV 3 hts (lw_V q2841 q2843 qs110 q164 q2844) rfl rfl rfl (by decide +kernel) ⟨Nat.le_of_ble_eq_true rfl, Nat.le_of_ble_eq_true rfl⟩) (mm_pV hKK (mm_rc hKK hT.2.1 mm_le.rf rfl)) rfl rfl hl.1 rfl (lv_room (Nat.le_of_ble_eq_true rfl)) dX8_set_56 ⟨Nat.le_of_ble_eq_true rfl, Nat.le_of_ble_eq_true rfl⟩) hS (mm_sS hS) (fun H_56 L_56 hT hz_56 hq_56 hS => ?_)
          have h3 : fcS S a b v = true := by unfold fcS; rw [c_28, c_33, hcja, c_41, c_48]; rfl
          refine mm_top (y := mm_b true) (by rw [c_28, c_33]; rfl) ?_
          have hlj : isEl S a b = true := by unfold isEl; rw [c_28, hcja, c_41]; rfl
          obtain ⟨-, hrla, hinb⟩ := isEl_in hlj
          rw [hcja] at hrla hinb
          obtain ⟨jb, hjb, hejb, hcjb⟩ := inR_t hinb
          have hl : lv_has ls 6 [(5, .int (mm_b (inV v))), (4, .int (mm_b (hasE S a b))), (0, .ref x), (1, .int (nI ja)), (2, .int (nI jb)), (3, .int v)] := by simpa only [hejb] using hl
          have hlenj := hW.len hja
          have hv9 : s_nv S < 40 := of_decide_eq_true c_48
          refine mm_ifneB (tgt := 64) hx hb dX8_set_59 (by decide) (fun c_59 => ?_) (fun c_59 => ?_)
          · refine lv_aload_n hx hb dX8_set_64 rfl (lv_at hl 2 rfl) ?_
            refine mm_rv (va_runV (As := []) (rest := []) ⟨hx, hb, hml, hown, hts⟩ (t_remember l hT ((tw_un (by decide)).trans (hk4)) hk8) (cwV 0 hts (lw_V q2697 q2699 qs77 q164 q2700) rfl rfl rfl (by decide +kernel) ⟨Nat.le_of_ble_eq_true rfl, Nat.le_of_ble_eq_true rfl⟩) (mm_pV hKK (mm_rc hKK hT.2.1 mm_le.rf rfl)) rfl rfl hl.1 rfl (lv_room (Nat.le_of_ble_eq_true rfl)) dX8_set_65 ⟨Nat.le_of_ble_eq_true rfl, Nat.le_of_ble_eq_true rfl⟩) hS (mm_sS hS) (fun H_65 L_65 hB_65 hz_65 hq_65 hS => ?_)
            obtain ⟨I_65, F_65, hT, hx4_65, he_65, h3c_65, h3d_65⟩ := hB_65
            have hR := TRx he_65 (by decide) hR
            refine lv_aload_n hx hb dX8_set_68 rfl (lv_at hl 2 rfl) ?_
            refine lv_iload_n hx hb dX8_set_69 rfl (lv_at hl 3 rfl) ?_
            refine lv_iload_n hx hb dX8_set_70 rfl (lv_at hl 4 rfl) ?_
            refine lv_iload_n hx hb dX8_set_71 rfl (lv_at hl 5 rfl) ?_
            refine mm_ri (va_runV (As := [.int (nI ja), .int (nI jb), .int v]) (rest := []) ⟨hx, hb, hml, hown, hts⟩ (t_makeSet l hT hR hW hRg hja hrla hv9 hnn9 hjb) (cwV 3 hts (lw_V q2725 q2727 qs84 q164 q2728) rfl rfl rfl (by decide +kernel) ⟨Nat.le_of_ble_eq_true rfl, Nat.le_of_ble_eq_true rfl⟩) (mm_pV hKK (mm_rc hKK hT.2.1 mm_le.rf rfl)) rfl rfl hl.1 rfl (lv_room (Nat.le_of_ble_eq_true rfl)) dX8_set_72 ⟨Nat.le_of_ble_eq_true rfl, Nat.le_of_ble_eq_true rfl⟩) hS (mm_sS hS) (fun H_72 L_72 hB_72 hz_72 hq_72 hS => ?_)
            obtain ⟨F_72, hT, he_72, hR⟩ := hB_72
            exact mm_iret (v := nI (s_nv S)) hx hb hr hlk hS (Nat.le_of_ble_eq_true rfl) (Nat.le_of_ble_eq_true rfl) (⟨by rw [qv_t h3], I_65, F_72, hT, by rw [if_pos h3, h3, hcja, hcjb]; exact ⟨⟨hx4_65, fun j hj => (congrFun (he_72 3 (by decide)) _).trans (h3c_65 j hj), fun j hj => (congrFun (he_72 3 (by decide)) _).trans (h3d_65 j hj)⟩, (he_65.mono (by decide)).tr (he_72.mono (by decide)), hR⟩⟩) dX8_set_75
          · exact absurd c_59 (by decide)
set_option maxRecDepth 100000 in
theorem tm_append (l : Launch) {G : mm_G} {P : mm_H} {H : Heap} {x : Nat} {ad : Nat → Nat} {I : Nat → Int32} {F : Nat → Nat → Int32} {S : sp_S} {k : Nat} {a v : Int32} (hT : TW G x ad I F H) (hR : TR (F 0) S) (hW : WF S) (hk4 : I 4 = nI k) (hk8 : k ≤ 8) (hRg : RG S) (hnn9 : s_nn S + 4 ≤ 190) : Mt l yX8_append (ws_ yX8_append cX8_append 6 (some .int)) 18 1300 0 0 G P [.ref x, .int a, .int v] H (tw_M x ad) (mm_i (qv (apD S a v) (nI (s_nv S))) (fun H2 => ∃ I2 F2, TW G x ad I2 F2 H2 ∧ (if (apD S a v) = true then ((exI [4] (upd I 6 (ck (inR a (s_nv S)) (inV v) (apC S a))) I2 ∧ I2 4 = nI (min k 7 + 1)) ∧ (∀ j, j < 4210 → F2 3 (4210 * min k 7 + j) = F 0 j) ∧ (∀ j, j < 4210 * min k 7 → F2 3 j = F 3 (j + (if k = 8 then 4210 else 0)))) ∧ eqx [0, 3, 7] F F2 ∧ TR (F2 0) (appOp S a.toNatClampNeg v) else I2 = upd I 6 (ck (inR a (s_nv S)) (inV v) (apC S a)) ∧ F2 = F))) := by
  refine Mt.of (by decide) (Nat.le_of_ble_eq_true rfl) (fun p e s m below meth c ls hx hb hr hlk hml hown hnm hts hKK hsH hl hS => ?_)
  have hl : lv_has ls 6 [(0, .ref x), (1, .int a), (2, .int v)] := hl
  have hR0 := hR
  have hMx : mm_A (tw_M x ad) H x := Or.inl (Or.inl rfl)
  have hMa : ∀ j, tw_isA j = true → mm_A (tw_M x ad) H (ad j) := fun j hj => Or.inl (Or.inr ⟨j, hj, rfl⟩)
  have hnv := hW.nv
  have hnn := hW.nn
  refine lv_aload_n hx hb dX8_append_0 rfl (lv_at hl 0 rfl) ?_
  refine lv_iload_n hx hb dX8_append_1 rfl (lv_at hl 1 rfl) ?_
  refine mm_rpu (va_runV (As := [.int a]) (rest := []) ⟨hx, hb, hml, hown, hts⟩ (t_isVersion l hT hR hW) (cwV 1 hts (lw_V q2713 q2715 qs81 q164 q2716) rfl rfl rfl (by decide +kernel) ⟨Nat.le_of_ble_eq_true rfl, Nat.le_of_ble_eq_true rfl⟩) (mm_pV hKK (mm_rc hKK hT.2.1 mm_le.rf rfl)) rfl rfl hl.1 rfl (lv_room (Nat.le_of_ble_eq_true rfl)) dX8_append_2 ⟨Nat.le_of_ble_eq_true rfl, Nat.le_of_ble_eq_true rfl⟩) hS (mm_s0 hS) (fun L_2 hS => ?_)
  refine lv_istore_n (lv' := [(3, .int (mm_b (inR a (s_nv S)))), (0, .ref x), (1, .int a), (2, .int v)]) hx hb dX8_append_5 rfl hl (by decide) rfl (fun ls hl => ?_)
  refine lv_iload_n hx hb dX8_append_6 rfl (lv_at hl 3 rfl) ?_
  refine lv_i2l (v := v.toInt64) hx hb dX8_append_7 rfl ?_
  refine lv_ldc2 (v := (-999)) hx hb hown (hts _ q3005) dX8_append_8 ?_
  refine lv_ldc2 (v := 999) hx hb hown (hts _ q3006) dX8_append_11 ?_
  refine mm_rpu (va_runS (As := [.long v.toInt64, .long ((-999)), .long 999]) (rest := []) ⟨hx, hb, hml, hown, hts⟩ (t_isWithin l ) (va_cwS 3 hts (lw_S q2599 q2600 q164 q2601) rfl rfl rfl (by decide +kernel) ⟨Nat.le_of_ble_eq_true rfl, Nat.le_of_ble_eq_true rfl⟩) (mm_pS hKK) rfl rfl hl.1 rfl (lv_room (Nat.le_of_ble_eq_true rfl)) dX8_append_14 ⟨Nat.le_of_ble_eq_true rfl, Nat.le_of_ble_eq_true rfl⟩) hS (mm_s0 hS) (fun L_14 hS => ?_)
  refine mm_top (y := mm_b (inV v)) (congrArg mm_b (w_inV v)) ?_
  refine lv_istore (lv' := [(4, .int (mm_b (inV v))), (3, .int (mm_b (inR a (s_nv S)))), (0, .ref x), (1, .int a), (2, .int v)]) hx hb dX8_append_17 hl (by decide) rfl (fun ls hl => ?_)
  refine lv_iload_n hx hb dX8_append_19 rfl (lv_at hl 1 rfl) ?_
  refine mm_ifeqB (tgt := 52) hx hb dX8_append_20 (by decide) (fun c_20 => ?_) (fun c_20 => ?_)
  · refine lv_iconst (v := nI 0) hx hb dX8_append_52 (by decide) ?_
    refine mm_top (y := mm_b false) rfl ?_
    refine lv_istore (lv' := [(5, .int (mm_b false)), (4, .int (mm_b (inV v))), (3, .int (mm_b (inR a (s_nv S)))), (0, .ref x), (1, .int a), (2, .int v)]) hx hb dX8_append_53 hl (by decide) rfl (fun ls hl => ?_)
    refine lv_aload_n hx hb dX8_append_55 rfl (lv_at hl 3 rfl) ?_
    refine lv_iload_n hx hb dX8_append_56 rfl (lv_at hl 2 rfl) ?_
    refine lv_iload hx hb dX8_append_57 (lv_at hl 1 rfl) ?_
    refine lv_iload hx hb dX8_append_59 (lv_at hl 0 rfl) ?_
    refine mm_ri (va_runV (As := [.int (mm_b (inR a (s_nv S))), .int (mm_b (inV v)), .int (mm_b false)]) (rest := []) ⟨hx, hb, hml, hown, hts⟩ (t_check l hT) (cwV 3 hts (lw_V q2841 q2843 qs110 q164 q2844) rfl rfl rfl (by decide +kernel) ⟨Nat.le_of_ble_eq_true rfl, Nat.le_of_ble_eq_true rfl⟩) (mm_pV hKK (mm_rc hKK hT.2.1 mm_le.rf rfl)) rfl rfl hl.1 rfl (lv_room (Nat.le_of_ble_eq_true rfl)) dX8_append_61 ⟨Nat.le_of_ble_eq_true rfl, Nat.le_of_ble_eq_true rfl⟩) hS (mm_sS hS) (fun H_61 L_61 hT hz_61 hq_61 hS => ?_)
    have h3 : apC S a = false := by unfold apC isLv; rw [c_20, Bool.false_and, Bool.false_and, Bool.false_and]
    refine mm_top (y := mm_b false) (by rw [Bool.and_false]) ?_
    refine mm_ifneB (tgt := 69) hx hb dX8_append_64 (by decide) (fun c_64 => ?_) (fun c_64 => ?_)
    · exact absurd c_64 (by decide)
    · refine lv_iconst (v := nI 0) hx hb dX8_append_67 (by decide) ?_
      exact mm_iret (v := nI 0) hx hb hr hlk hS (Nat.le_of_ble_eq_true rfl) (Nat.le_of_ble_eq_true rfl) (⟨by rw [qv_f (by unfold apD; rw [h3, Bool.and_false])]; rfl, _, F, hT, by rw [if_neg (by unfold apD; rw [h3, Bool.and_false]; decide), h3]; exact ⟨rfl, rfl⟩⟩) dX8_append_68
  · have hina := c_20
    obtain ⟨ja, hja, heja, hcja⟩ := inR_t hina
    have hl : lv_has ls 6 [(4, .int (mm_b (inV v))), (3, .int (mm_b (inR a (s_nv S)))), (0, .ref x), (1, .int (nI ja)), (2, .int v)] := by simpa only [heja] using hl
    refine lv_aload_n hx hb dX8_append_23 rfl (lv_at hl 2 rfl) ?_
    refine lv_iload_n hx hb dX8_append_24 rfl (lv_at hl 3 rfl) ?_
    refine mm_rpu (va_runV (As := [.int (nI ja)]) (rest := []) ⟨hx, hb, hml, hown, hts⟩ (t_isGone l hT hR hW (by first | assumption | omega)) (cwV 1 hts (lw_V q2717 q2719 qs82 q164 q2720) rfl rfl rfl (by decide +kernel) ⟨Nat.le_of_ble_eq_true rfl, Nat.le_of_ble_eq_true rfl⟩) (mm_pV hKK (mm_rc hKK hT.2.1 mm_le.rf rfl)) rfl rfl hl.1 rfl (lv_room (Nat.le_of_ble_eq_true rfl)) dX8_append_25 ⟨Nat.le_of_ble_eq_true rfl, Nat.le_of_ble_eq_true rfl⟩) hS (mm_s0 hS) (fun L_25 hS => ?_)
    refine mm_ifneB (tgt := 52) hx hb dX8_append_28 (by decide) (fun c_28 => ?_) (fun c_28 => ?_)
    · refine lv_iconst (v := nI 0) hx hb dX8_append_52 (by decide) ?_
      refine mm_top (y := mm_b false) rfl ?_
      refine lv_istore (lv' := [(5, .int (mm_b false)), (4, .int (mm_b (inV v))), (3, .int (mm_b (inR a (s_nv S)))), (0, .ref x), (1, .int (nI ja)), (2, .int v)]) hx hb dX8_append_53 hl (by decide) rfl (fun ls hl => ?_)
      refine lv_aload_n hx hb dX8_append_55 rfl (lv_at hl 3 rfl) ?_
      refine lv_iload_n hx hb dX8_append_56 rfl (lv_at hl 2 rfl) ?_
      refine lv_iload hx hb dX8_append_57 (lv_at hl 1 rfl) ?_
      refine lv_iload hx hb dX8_append_59 (lv_at hl 0 rfl) ?_
      refine mm_ri (va_runV (As := [.int (mm_b (inR a (s_nv S))), .int (mm_b (inV v)), .int (mm_b false)]) (rest := []) ⟨hx, hb, hml, hown, hts⟩ (t_check l hT) (cwV 3 hts (lw_V q2841 q2843 qs110 q164 q2844) rfl rfl rfl (by decide +kernel) ⟨Nat.le_of_ble_eq_true rfl, Nat.le_of_ble_eq_true rfl⟩) (mm_pV hKK (mm_rc hKK hT.2.1 mm_le.rf rfl)) rfl rfl hl.1 rfl (lv_room (Nat.le_of_ble_eq_true rfl)) dX8_append_61 ⟨Nat.le_of_ble_eq_true rfl, Nat.le_of_ble_eq_true rfl⟩) hS (mm_sS hS) (fun H_61 L_61 hT hz_61 hq_61 hS => ?_)
      have h3 : apC S a = false := by unfold apC isLv; rw [hcja, c_28]; cases inR a (s_nv S) <;> rfl
      refine mm_top (y := mm_b false) (by rw [Bool.and_false]) ?_
      refine mm_ifneB (tgt := 69) hx hb dX8_append_64 (by decide) (fun c_64 => ?_) (fun c_64 => ?_)
      · exact absurd c_64 (by decide)
      · refine lv_iconst (v := nI 0) hx hb dX8_append_67 (by decide) ?_
        exact mm_iret (v := nI 0) hx hb hr hlk hS (Nat.le_of_ble_eq_true rfl) (Nat.le_of_ble_eq_true rfl) (⟨by rw [qv_f (by unfold apD; rw [h3, Bool.and_false])]; rfl, _, F, hT, by rw [if_neg (by unfold apD; rw [h3, Bool.and_false]; decide), h3]; exact ⟨rfl, rfl⟩⟩) dX8_append_68
    · have hlenj := hW.len hja
      refine lv_aload_n hx hb dX8_append_31 rfl (lv_at hl 2 rfl) ?_
      refine lv_iload_n hx hb dX8_append_32 rfl (lv_at hl 3 rfl) ?_
      refine mm_rpu (va_runV (As := [.int (nI ja)]) (rest := []) ⟨hx, hb, hml, hown, hts⟩ (t_lengthOf l hT hR hW (by first | assumption | omega)) (cwV 1 hts (lw_V q2487 q2489 qs60 q164 q2490) rfl rfl rfl (by decide +kernel) ⟨Nat.le_of_ble_eq_true rfl, Nat.le_of_ble_eq_true rfl⟩) (mm_pV hKK (mm_rc hKK hT.2.1 mm_le.rf rfl)) rfl rfl hl.1 rfl (lv_room (Nat.le_of_ble_eq_true rfl)) dX8_append_33 ⟨Nat.le_of_ble_eq_true rfl, Nat.le_of_ble_eq_true rfl⟩) hS (mm_s0 hS) (fun L_33 hS => ?_)
      refine lv_bipush (v := nI 64) hx hb dX8_append_36 (by decide) ?_
      refine mm_icmp_ge (tgt := 52) (by omega) (by omega) hx hb dX8_append_38 (by decide) (fun c_38 => ?_) (fun c_38 => ?_)
      · refine lv_iconst (v := nI 0) hx hb dX8_append_52 (by decide) ?_
        refine mm_top (y := mm_b false) rfl ?_
        refine lv_istore (lv' := [(5, .int (mm_b false)), (4, .int (mm_b (inV v))), (3, .int (mm_b (inR a (s_nv S)))), (0, .ref x), (1, .int (nI ja)), (2, .int v)]) hx hb dX8_append_53 hl (by decide) rfl (fun ls hl => ?_)
        refine lv_aload_n hx hb dX8_append_55 rfl (lv_at hl 3 rfl) ?_
        refine lv_iload_n hx hb dX8_append_56 rfl (lv_at hl 2 rfl) ?_
        refine lv_iload hx hb dX8_append_57 (lv_at hl 1 rfl) ?_
        refine lv_iload hx hb dX8_append_59 (lv_at hl 0 rfl) ?_
        refine mm_ri (va_runV (As := [.int (mm_b (inR a (s_nv S))), .int (mm_b (inV v)), .int (mm_b false)]) (rest := []) ⟨hx, hb, hml, hown, hts⟩ (t_check l hT) (cwV 3 hts (lw_V q2841 q2843 qs110 q164 q2844) rfl rfl rfl (by decide +kernel) ⟨Nat.le_of_ble_eq_true rfl, Nat.le_of_ble_eq_true rfl⟩) (mm_pV hKK (mm_rc hKK hT.2.1 mm_le.rf rfl)) rfl rfl hl.1 rfl (lv_room (Nat.le_of_ble_eq_true rfl)) dX8_append_61 ⟨Nat.le_of_ble_eq_true rfl, Nat.le_of_ble_eq_true rfl⟩) hS (mm_sS hS) (fun H_61 L_61 hT hz_61 hq_61 hS => ?_)
        have h3 : apC S a = false := by unfold apC; rw [hcja, decide_eq_false (by omega), Bool.and_false, Bool.false_and]
        refine mm_top (y := mm_b false) (by rw [Bool.and_false]) ?_
        refine mm_ifneB (tgt := 69) hx hb dX8_append_64 (by decide) (fun c_64 => ?_) (fun c_64 => ?_)
        · exact absurd c_64 (by decide)
        · refine lv_iconst (v := nI 0) hx hb dX8_append_67 (by decide) ?_
          exact mm_iret (v := nI 0) hx hb hr hlk hS (Nat.le_of_ble_eq_true rfl) (Nat.le_of_ble_eq_true rfl) (⟨by rw [qv_f (by unfold apD; rw [h3, Bool.and_false])]; rfl, _, F, hT, by rw [if_neg (by unfold apD; rw [h3, Bool.and_false]; decide), h3]; exact ⟨rfl, rfl⟩⟩) dX8_append_68
      · refine lv_aload_n hx hb dX8_append_41 rfl (lv_at hl 2 rfl) ?_
        refine mm_rpu (va_runV (As := []) (rest := []) ⟨hx, hb, hml, hown, hts⟩ (t_hasRoom l hT hR hW) (cwV 0 hts (lw_V q2721 q2723 qs83 q164 q2724) rfl rfl rfl (by decide +kernel) ⟨Nat.le_of_ble_eq_true rfl, Nat.le_of_ble_eq_true rfl⟩) (mm_pV hKK (mm_rc hKK hT.2.1 mm_le.rf rfl)) rfl rfl hl.1 rfl (lv_room (Nat.le_of_ble_eq_true rfl)) dX8_append_42 ⟨Nat.le_of_ble_eq_true rfl, Nat.le_of_ble_eq_true rfl⟩) hS (mm_s0 hS) (fun L_42 hS => ?_)
        refine mm_top (y := mm_b (room S)) rfl ?_
        refine mm_ifeqB (tgt := 52) hx hb dX8_append_45 (by decide) (fun c_45 => ?_) (fun c_45 => ?_)
        · refine lv_iconst (v := nI 0) hx hb dX8_append_52 (by decide) ?_
          refine mm_top (y := mm_b false) rfl ?_
          refine lv_istore (lv' := [(5, .int (mm_b false)), (4, .int (mm_b (inV v))), (3, .int (mm_b (inR a (s_nv S)))), (0, .ref x), (1, .int (nI ja)), (2, .int v)]) hx hb dX8_append_53 hl (by decide) rfl (fun ls hl => ?_)
          refine lv_aload_n hx hb dX8_append_55 rfl (lv_at hl 3 rfl) ?_
          refine lv_iload_n hx hb dX8_append_56 rfl (lv_at hl 2 rfl) ?_
          refine lv_iload hx hb dX8_append_57 (lv_at hl 1 rfl) ?_
          refine lv_iload hx hb dX8_append_59 (lv_at hl 0 rfl) ?_
          refine mm_ri (va_runV (As := [.int (mm_b (inR a (s_nv S))), .int (mm_b (inV v)), .int (mm_b false)]) (rest := []) ⟨hx, hb, hml, hown, hts⟩ (t_check l hT) (cwV 3 hts (lw_V q2841 q2843 qs110 q164 q2844) rfl rfl rfl (by decide +kernel) ⟨Nat.le_of_ble_eq_true rfl, Nat.le_of_ble_eq_true rfl⟩) (mm_pV hKK (mm_rc hKK hT.2.1 mm_le.rf rfl)) rfl rfl hl.1 rfl (lv_room (Nat.le_of_ble_eq_true rfl)) dX8_append_61 ⟨Nat.le_of_ble_eq_true rfl, Nat.le_of_ble_eq_true rfl⟩) hS (mm_sS hS) (fun H_61 L_61 hT hz_61 hq_61 hS => ?_)
          have h3 : apC S a = false := by unfold apC; rw [c_45, Bool.and_false]
          refine mm_top (y := mm_b false) (by rw [Bool.and_false]) ?_
          refine mm_ifneB (tgt := 69) hx hb dX8_append_64 (by decide) (fun c_64 => ?_) (fun c_64 => ?_)
          · exact absurd c_64 (by decide)
          · refine lv_iconst (v := nI 0) hx hb dX8_append_67 (by decide) ?_
            exact mm_iret (v := nI 0) hx hb hr hlk hS (Nat.le_of_ble_eq_true rfl) (Nat.le_of_ble_eq_true rfl) (⟨by rw [qv_f (by unfold apD; rw [h3, Bool.and_false])]; rfl, _, F, hT, by rw [if_neg (by unfold apD; rw [h3, Bool.and_false]; decide), h3]; exact ⟨rfl, rfl⟩⟩) dX8_append_68
        · refine lv_iconst (v := nI 1) hx hb dX8_append_48 (by decide) ?_
          refine mm_top (y := mm_b true) rfl ?_
          refine lv_goto (tgt := 53) hx hb dX8_append_49 (by decide) ?_
          refine lv_istore (lv' := [(5, .int (mm_b true)), (4, .int (mm_b (inV v))), (3, .int (mm_b (inR a (s_nv S)))), (0, .ref x), (1, .int (nI ja)), (2, .int v)]) hx hb dX8_append_53 hl (by decide) rfl (fun ls hl => ?_)
          refine lv_aload_n hx hb dX8_append_55 rfl (lv_at hl 3 rfl) ?_
          refine lv_iload_n hx hb dX8_append_56 rfl (lv_at hl 2 rfl) ?_
          refine lv_iload hx hb dX8_append_57 (lv_at hl 1 rfl) ?_
          refine lv_iload hx hb dX8_append_59 (lv_at hl 0 rfl) ?_
          refine mm_ri (va_runV (As := [.int (mm_b (inR a (s_nv S))), .int (mm_b (inV v)), .int (mm_b true)]) (rest := []) ⟨hx, hb, hml, hown, hts⟩ (t_check l hT) (cwV 3 hts (lw_V q2841 q2843 qs110 q164 q2844) rfl rfl rfl (by decide +kernel) ⟨Nat.le_of_ble_eq_true rfl, Nat.le_of_ble_eq_true rfl⟩) (mm_pV hKK (mm_rc hKK hT.2.1 mm_le.rf rfl)) rfl rfl hl.1 rfl (lv_room (Nat.le_of_ble_eq_true rfl)) dX8_append_61 ⟨Nat.le_of_ble_eq_true rfl, Nat.le_of_ble_eq_true rfl⟩) hS (mm_sS hS) (fun H_61 L_61 hT hz_61 hq_61 hS => ?_)
          have h3 : apC S a = true := by unfold apC isLv; rw [hina, hcja, c_28, decide_eq_true (show s_len S ja < 64 from c_38), c_45]; rfl
          have h4 : (inR a (s_nv S) && inV v && true) = inV v := by rw [hina]; cases inV v <;> rfl
          refine mm_top (congrArg mm_b h4) ?_
          have hv9 : s_nv S < 40 := of_decide_eq_true c_45
          refine mm_ifneB (tgt := 69) hx hb dX8_append_64 (by decide) (fun c_64 => ?_) (fun c_64 => ?_)
          · refine lv_aload_n hx hb dX8_append_69 rfl (lv_at hl 3 rfl) ?_
            refine mm_rv (va_runV (As := []) (rest := []) ⟨hx, hb, hml, hown, hts⟩ (t_remember l hT ((tw_un (by decide)).trans (hk4)) hk8) (cwV 0 hts (lw_V q2697 q2699 qs77 q164 q2700) rfl rfl rfl (by decide +kernel) ⟨Nat.le_of_ble_eq_true rfl, Nat.le_of_ble_eq_true rfl⟩) (mm_pV hKK (mm_rc hKK hT.2.1 mm_le.rf rfl)) rfl rfl hl.1 rfl (lv_room (Nat.le_of_ble_eq_true rfl)) dX8_append_70 ⟨Nat.le_of_ble_eq_true rfl, Nat.le_of_ble_eq_true rfl⟩) hS (mm_sS hS) (fun H_70 L_70 hB_70 hz_70 hq_70 hS => ?_)
            obtain ⟨I_70, F_70, hT, hx4_70, he_70, h3c_70, h3d_70⟩ := hB_70
            have hR := TRx he_70 (by decide) hR
            refine lv_aload_n hx hb dX8_append_73 rfl (lv_at hl 3 rfl) ?_
            refine lv_iload_n hx hb dX8_append_74 rfl (lv_at hl 4 rfl) ?_
            refine lv_iload_n hx hb dX8_append_75 rfl (lv_at hl 5 rfl) ?_
            refine mm_ri (va_runV (As := [.int (nI ja), .int v]) (rest := []) ⟨hx, hb, hml, hown, hts⟩ (t_makeAppend l hT hR hW hRg hja c_28 hv9 hnn9 c_38) (cwV 2 hts (lw_V q2761 q2763 qs93 q164 q2764) rfl rfl rfl (by decide +kernel) ⟨Nat.le_of_ble_eq_true rfl, Nat.le_of_ble_eq_true rfl⟩) (mm_pV hKK (mm_rc hKK hT.2.1 mm_le.rf rfl)) rfl rfl hl.1 rfl (lv_room (Nat.le_of_ble_eq_true rfl)) dX8_append_76 ⟨Nat.le_of_ble_eq_true rfl, Nat.le_of_ble_eq_true rfl⟩) hS (mm_sS hS) (fun H_76 L_76 hB_76 hz_76 hq_76 hS => ?_)
            obtain ⟨F_76, hT, he_76, hR⟩ := hB_76
            have h5 : apD S a v = true := by unfold apD; rw [c_64, h3]; rfl
            exact mm_iret (v := nI (s_nv S)) hx hb hr hlk hS (Nat.le_of_ble_eq_true rfl) (Nat.le_of_ble_eq_true rfl) (⟨by rw [qv_t h5], I_70, F_76, hT, by rw [if_pos h5, hcja, h3]; exact ⟨⟨hx4_70, fun j hj => (congrFun (he_76 3 (by decide)) _).trans (h3c_70 j hj), fun j hj => (congrFun (he_76 3 (by decide)) _).trans (h3d_70 j hj)⟩, (he_70.mono (by decide)).tr (he_76.mono (by decide)), hR⟩⟩) dX8_append_79
          · refine lv_iconst (v := nI 0) hx hb dX8_append_67 (by decide) ?_
            exact mm_iret (v := nI 0) hx hb hr hlk hS (Nat.le_of_ble_eq_true rfl) (Nat.le_of_ble_eq_true rfl) (⟨by rw [qv_f (by unfold apD; rw [c_64]; rfl)]; rfl, _, F, hT, by rw [if_neg (by unfold apD; rw [c_64, Bool.false_and]; decide), h3]; exact ⟨rfl, rfl⟩⟩) dX8_append_68
set_option maxRecDepth 100000 in
theorem tm_truncate (l : Launch) {G : mm_G} {P : mm_H} {H : Heap} {x : Nat} {ad : Nat → Nat} {I : Nat → Int32} {F : Nat → Nat → Int32} {S : sp_S} {k : Nat} {a b : Int32} (hT : TW G x ad I F H) (hR : TR (F 0) S) (hW : WF S) (hk4 : I 4 = nI k) (hk8 : k ≤ 8) (hRg : RG S) (hnn9 : s_nn S + 4 ≤ 190) : Mt l yX8_truncate (ws_ yX8_truncate cX8_truncate 5 (some .int)) 18 1300 0 0 G P [.ref x, .int a, .int b] H (tw_M x ad) (mm_i (qv (trC S a b) (nI (s_nv S))) (fun H2 => ∃ I2 F2, TW G x ad I2 F2 H2 ∧ (if (trC S a b) = true then ((exI [4] (upd I 6 (ck (inR a (s_nv S)) (trF S a b) (trC S a b))) I2 ∧ I2 4 = nI (min k 7 + 1)) ∧ (∀ j, j < 4210 → F2 3 (4210 * min k 7 + j) = F 0 j) ∧ (∀ j, j < 4210 * min k 7 → F2 3 j = F 3 (j + (if k = 8 then 4210 else 0)))) ∧ eqx [0, 3, 7] F F2 ∧ TR (F2 0) (cutOp S a.toNatClampNeg b.toNatClampNeg) else I2 = upd I 6 (ck (inR a (s_nv S)) (trF S a b) (trC S a b)) ∧ F2 = F))) := by
  refine Mt.of (by decide) (Nat.le_of_ble_eq_true rfl) (fun p e s m below meth c ls hx hb hr hlk hml hown hnm hts hKK hsH hl hS => ?_)
  have hl : lv_has ls 5 [(0, .ref x), (1, .int a), (2, .int b)] := hl
  have hR0 := hR
  have hMx : mm_A (tw_M x ad) H x := Or.inl (Or.inl rfl)
  have hMa : ∀ j, tw_isA j = true → mm_A (tw_M x ad) H (ad j) := fun j hj => Or.inl (Or.inr ⟨j, hj, rfl⟩)
  have hnv := hW.nv
  have hnn := hW.nn
  refine lv_aload_n hx hb dX8_truncate_0 rfl (lv_at hl 0 rfl) ?_
  refine lv_iload_n hx hb dX8_truncate_1 rfl (lv_at hl 1 rfl) ?_
  refine mm_rpu (va_runV (As := [.int a]) (rest := []) ⟨hx, hb, hml, hown, hts⟩ (t_isVersion l hT hR hW) (cwV 1 hts (lw_V q2713 q2715 qs81 q164 q2716) rfl rfl rfl (by decide +kernel) ⟨Nat.le_of_ble_eq_true rfl, Nat.le_of_ble_eq_true rfl⟩) (mm_pV hKK (mm_rc hKK hT.2.1 mm_le.rf rfl)) rfl rfl hl.1 rfl (lv_room (Nat.le_of_ble_eq_true rfl)) dX8_truncate_2 ⟨Nat.le_of_ble_eq_true rfl, Nat.le_of_ble_eq_true rfl⟩) hS (mm_s0 hS) (fun L_2 hS => ?_)
  refine lv_istore_n (lv' := [(3, .int (mm_b (inR a (s_nv S)))), (0, .ref x), (1, .int a), (2, .int b)]) hx hb dX8_truncate_5 rfl hl (by decide) rfl (fun ls hl => ?_)
  refine lv_iload_n hx hb dX8_truncate_6 rfl (lv_at hl 0 rfl) ?_
  refine mm_ifeqB (tgt := 35) hx hb dX8_truncate_7 (by decide) (fun c_7 => ?_) (fun c_7 => ?_)
  · refine lv_iconst (v := nI 0) hx hb dX8_truncate_35 (by decide) ?_
    refine mm_top (y := mm_b false) rfl ?_
    have h2 : trF S a b = false := by unfold trF; rw [c_7]; rfl
    refine lv_istore (lv' := [(4, .int (mm_b false)), (3, .int (mm_b (inR a (s_nv S)))), (0, .ref x), (1, .int a), (2, .int b)]) hx hb dX8_truncate_36 hl (by decide) rfl (fun ls hl => ?_)
    refine lv_aload_n hx hb dX8_truncate_38 rfl (lv_at hl 2 rfl) ?_
    refine lv_iload_n hx hb dX8_truncate_39 rfl (lv_at hl 1 rfl) ?_
    refine lv_iload hx hb dX8_truncate_40 (lv_at hl 0 rfl) ?_
    refine lv_iload hx hb dX8_truncate_42 (lv_at hl 0 rfl) ?_
    refine mm_ifeqB (tgt := 66) hx hb dX8_truncate_44 (by decide) (fun c_44 => ?_) (fun c_44 => ?_)
    · refine lv_iconst (v := nI 0) hx hb dX8_truncate_66 (by decide) ?_
      refine mm_top (y := mm_b false) rfl ?_
      refine mm_ri (va_runV (As := [.int (mm_b (inR a (s_nv S))), .int (mm_b false), .int (mm_b false)]) (rest := []) ⟨hx, hb, hml, hown, hts⟩ (t_check l hT) (cwV 3 hts (lw_V q2841 q2843 qs110 q164 q2844) rfl rfl rfl (by decide +kernel) ⟨Nat.le_of_ble_eq_true rfl, Nat.le_of_ble_eq_true rfl⟩) (mm_pV hKK (mm_rc hKK hT.2.1 mm_le.rf rfl)) rfl rfl hl.1 rfl (lv_room (Nat.le_of_ble_eq_true rfl)) dX8_truncate_67 ⟨Nat.le_of_ble_eq_true rfl, Nat.le_of_ble_eq_true rfl⟩) hS (mm_sS hS) (fun H_67 L_67 hT hz_67 hq_67 hS => ?_)
      have h3 : trC S a b = false := by unfold trC; rw [h2]; rfl
      refine mm_top (y := mm_b false) (by rw [Bool.and_false]) ?_
      refine mm_ifneB (tgt := 75) hx hb dX8_truncate_70 (by decide) (fun c_70 => ?_) (fun c_70 => ?_)
      · exact absurd c_70 (by decide)
      · refine lv_iconst (v := nI 0) hx hb dX8_truncate_73 (by decide) ?_
        exact mm_iret (v := nI 0) hx hb hr hlk hS (Nat.le_of_ble_eq_true rfl) (Nat.le_of_ble_eq_true rfl) (⟨by rw [qv_f h3]; rfl, _, F, hT, by rw [if_neg (by rw [h3]; decide), h2, h3]; exact ⟨rfl, rfl⟩⟩) dX8_truncate_74
    · exact absurd c_44 (by decide)
  · have hina := c_7
    obtain ⟨ja, hja, heja, hcja⟩ := inR_t hina
    have hl : lv_has ls 5 [(3, .int (mm_b (inR a (s_nv S)))), (0, .ref x), (1, .int (nI ja)), (2, .int b)] := by simpa only [heja] using hl
    refine lv_iload_n hx hb dX8_truncate_10 rfl (lv_at hl 3 rfl) ?_
    refine lv_if_lt (tgt := 35) hx hb dX8_truncate_11 (by decide) (fun c_11 => ?_) (fun c_11 => ?_)
    · refine lv_iconst (v := nI 0) hx hb dX8_truncate_35 (by decide) ?_
      refine mm_top (y := mm_b false) rfl ?_
      have h2 : trF S a b = false := by unfold trF; rw [decide_eq_false (fun z => z c_11), Bool.and_false, Bool.false_and]
      refine lv_istore (lv' := [(4, .int (mm_b false)), (3, .int (mm_b (inR a (s_nv S)))), (0, .ref x), (1, .int (nI ja)), (2, .int b)]) hx hb dX8_truncate_36 hl (by decide) rfl (fun ls hl => ?_)
      refine lv_aload_n hx hb dX8_truncate_38 rfl (lv_at hl 2 rfl) ?_
      refine lv_iload_n hx hb dX8_truncate_39 rfl (lv_at hl 1 rfl) ?_
      refine lv_iload hx hb dX8_truncate_40 (lv_at hl 0 rfl) ?_
      refine lv_iload hx hb dX8_truncate_42 (lv_at hl 0 rfl) ?_
      refine mm_ifeqB (tgt := 66) hx hb dX8_truncate_44 (by decide) (fun c_44 => ?_) (fun c_44 => ?_)
      · refine lv_iconst (v := nI 0) hx hb dX8_truncate_66 (by decide) ?_
        refine mm_top (y := mm_b false) rfl ?_
        refine mm_ri (va_runV (As := [.int (mm_b (inR a (s_nv S))), .int (mm_b false), .int (mm_b false)]) (rest := []) ⟨hx, hb, hml, hown, hts⟩ (t_check l hT) (cwV 3 hts (lw_V q2841 q2843 qs110 q164 q2844) rfl rfl rfl (by decide +kernel) ⟨Nat.le_of_ble_eq_true rfl, Nat.le_of_ble_eq_true rfl⟩) (mm_pV hKK (mm_rc hKK hT.2.1 mm_le.rf rfl)) rfl rfl hl.1 rfl (lv_room (Nat.le_of_ble_eq_true rfl)) dX8_truncate_67 ⟨Nat.le_of_ble_eq_true rfl, Nat.le_of_ble_eq_true rfl⟩) hS (mm_sS hS) (fun H_67 L_67 hT hz_67 hq_67 hS => ?_)
        have h3 : trC S a b = false := by unfold trC; rw [h2]; rfl
        refine mm_top (y := mm_b false) (by rw [Bool.and_false]) ?_
        refine mm_ifneB (tgt := 75) hx hb dX8_truncate_70 (by decide) (fun c_70 => ?_) (fun c_70 => ?_)
        · exact absurd c_70 (by decide)
        · refine lv_iconst (v := nI 0) hx hb dX8_truncate_73 (by decide) ?_
          exact mm_iret (v := nI 0) hx hb hr hlk hS (Nat.le_of_ble_eq_true rfl) (Nat.le_of_ble_eq_true rfl) (⟨by rw [qv_f h3]; rfl, _, F, hT, by rw [if_neg (by rw [h3]; decide), h2, h3]; exact ⟨rfl, rfl⟩⟩) dX8_truncate_74
      · exact absurd c_44 (by decide)
    · refine lv_aload_n hx hb dX8_truncate_14 rfl (lv_at hl 1 rfl) ?_
      refine lv_iload_n hx hb dX8_truncate_15 rfl (lv_at hl 2 rfl) ?_
      refine mm_rpu (va_runV (As := [.int (nI ja)]) (rest := []) ⟨hx, hb, hml, hown, hts⟩ (t_isGone l hT hR hW (by first | assumption | omega)) (cwV 1 hts (lw_V q2717 q2719 qs82 q164 q2720) rfl rfl rfl (by decide +kernel) ⟨Nat.le_of_ble_eq_true rfl, Nat.le_of_ble_eq_true rfl⟩) (mm_pV hKK (mm_rc hKK hT.2.1 mm_le.rf rfl)) rfl rfl hl.1 rfl (lv_room (Nat.le_of_ble_eq_true rfl)) dX8_truncate_16 ⟨Nat.le_of_ble_eq_true rfl, Nat.le_of_ble_eq_true rfl⟩) hS (mm_s0 hS) (fun L_16 hS => ?_)
      refine mm_ifneB (tgt := 31) hx hb dX8_truncate_19 (by decide) (fun c_19 => ?_) (fun c_19 => ?_)
      · refine lv_iconst (v := nI 1) hx hb dX8_truncate_31 (by decide) ?_
        refine mm_top (y := mm_b true) rfl ?_
        refine lv_goto (tgt := 36) hx hb dX8_truncate_32 (by decide) ?_
        have h2 : trF S a b = true := by unfold trF; rw [hina, decide_eq_true c_11, hcja, c_19]; rfl
        refine lv_istore (lv' := [(4, .int (mm_b true)), (3, .int (mm_b (inR a (s_nv S)))), (0, .ref x), (1, .int (nI ja)), (2, .int b)]) hx hb dX8_truncate_36 hl (by decide) rfl (fun ls hl => ?_)
        refine lv_aload_n hx hb dX8_truncate_38 rfl (lv_at hl 2 rfl) ?_
        refine lv_iload_n hx hb dX8_truncate_39 rfl (lv_at hl 1 rfl) ?_
        refine lv_iload hx hb dX8_truncate_40 (lv_at hl 0 rfl) ?_
        refine lv_iload hx hb dX8_truncate_42 (lv_at hl 0 rfl) ?_
        refine mm_ifeqB (tgt := 66) hx hb dX8_truncate_44 (by decide) (fun c_44 => ?_) (fun c_44 => ?_)
        · exact absurd c_44 (by decide)
        · refine lv_aload_n hx hb dX8_truncate_47 rfl (lv_at hl 2 rfl) ?_
          refine lv_iload_n hx hb dX8_truncate_48 rfl (lv_at hl 3 rfl) ?_
          refine mm_rpu (va_runV (As := [.int (nI ja)]) (rest := [.int (mm_b true), .int (mm_b (inR a (s_nv S))), .ref x]) ⟨hx, hb, hml, hown, hts⟩ (t_isGone l hT hR hW (by first | assumption | omega)) (cwV 1 hts (lw_V q2717 q2719 qs82 q164 q2720) rfl rfl rfl (by decide +kernel) ⟨Nat.le_of_ble_eq_true rfl, Nat.le_of_ble_eq_true rfl⟩) (mm_pV hKK (mm_rc hKK hT.2.1 mm_le.rf rfl)) rfl rfl hl.1 rfl (lv_room (Nat.le_of_ble_eq_true rfl)) dX8_truncate_49 ⟨Nat.le_of_ble_eq_true rfl, Nat.le_of_ble_eq_true rfl⟩) hS (mm_s0 hS) (fun L_49 hS => ?_)
          refine mm_ifneB (tgt := 66) hx hb dX8_truncate_52 (by decide) (fun c_52 => ?_) (fun c_52 => ?_)
          · refine lv_iconst (v := nI 0) hx hb dX8_truncate_66 (by decide) ?_
            refine mm_top (y := mm_b false) rfl ?_
            refine mm_ri (va_runV (As := [.int (mm_b (inR a (s_nv S))), .int (mm_b true), .int (mm_b false)]) (rest := []) ⟨hx, hb, hml, hown, hts⟩ (t_check l hT) (cwV 3 hts (lw_V q2841 q2843 qs110 q164 q2844) rfl rfl rfl (by decide +kernel) ⟨Nat.le_of_ble_eq_true rfl, Nat.le_of_ble_eq_true rfl⟩) (mm_pV hKK (mm_rc hKK hT.2.1 mm_le.rf rfl)) rfl rfl hl.1 rfl (lv_room (Nat.le_of_ble_eq_true rfl)) dX8_truncate_67 ⟨Nat.le_of_ble_eq_true rfl, Nat.le_of_ble_eq_true rfl⟩) hS (mm_sS hS) (fun H_67 L_67 hT hz_67 hq_67 hS => ?_)
            have h3 : trC S a b = false := by unfold trC; rw [hcja, c_52, h2]; rfl
            refine mm_top (y := mm_b false) (by rw [Bool.and_false]) ?_
            refine mm_ifneB (tgt := 75) hx hb dX8_truncate_70 (by decide) (fun c_70 => ?_) (fun c_70 => ?_)
            · exact absurd c_70 (by decide)
            · refine lv_iconst (v := nI 0) hx hb dX8_truncate_73 (by decide) ?_
              exact mm_iret (v := nI 0) hx hb hr hlk hS (Nat.le_of_ble_eq_true rfl) (Nat.le_of_ble_eq_true rfl) (⟨by rw [qv_f h3]; rfl, _, F, hT, by rw [if_neg (by rw [h3]; decide), h2, h3]; exact ⟨rfl, rfl⟩⟩) dX8_truncate_74
          · exfalso; rw [c_19] at c_52; cases c_52
      · have hlenj := hW.len hja
        refine lv_iload_n hx hb dX8_truncate_22 rfl (lv_at hl 3 rfl) ?_
        refine lv_aload_n hx hb dX8_truncate_23 rfl (lv_at hl 1 rfl) ?_
        refine lv_iload_n hx hb dX8_truncate_24 rfl (lv_at hl 2 rfl) ?_
        refine mm_rpu (va_runV (As := [.int (nI ja)]) (rest := [.int b]) ⟨hx, hb, hml, hown, hts⟩ (t_lengthOf l hT hR hW (by first | assumption | omega)) (cwV 1 hts (lw_V q2487 q2489 qs60 q164 q2490) rfl rfl rfl (by decide +kernel) ⟨Nat.le_of_ble_eq_true rfl, Nat.le_of_ble_eq_true rfl⟩) (mm_pV hKK (mm_rc hKK hT.2.1 mm_le.rf rfl)) rfl rfl hl.1 rfl (lv_room (Nat.le_of_ble_eq_true rfl)) dX8_truncate_25 ⟨Nat.le_of_ble_eq_true rfl, Nat.le_of_ble_eq_true rfl⟩) hS (mm_s0 hS) (fun L_25 hS => ?_)
        refine lv_icmp_gt (tgt := 35) hx hb dX8_truncate_28 (by decide) (fun c_28 => ?_) (fun c_28 => ?_)
        · refine lv_iconst (v := nI 0) hx hb dX8_truncate_35 (by decide) ?_
          refine mm_top (y := mm_b false) rfl ?_
          have h2 : trF S a b = false := by unfold trF; rw [hcja, c_19, tr_nin (by omega) c_28, Bool.or_false, Bool.and_false]
          refine lv_istore (lv' := [(4, .int (mm_b false)), (3, .int (mm_b (inR a (s_nv S)))), (0, .ref x), (1, .int (nI ja)), (2, .int b)]) hx hb dX8_truncate_36 hl (by decide) rfl (fun ls hl => ?_)
          refine lv_aload_n hx hb dX8_truncate_38 rfl (lv_at hl 2 rfl) ?_
          refine lv_iload_n hx hb dX8_truncate_39 rfl (lv_at hl 1 rfl) ?_
          refine lv_iload hx hb dX8_truncate_40 (lv_at hl 0 rfl) ?_
          refine lv_iload hx hb dX8_truncate_42 (lv_at hl 0 rfl) ?_
          refine mm_ifeqB (tgt := 66) hx hb dX8_truncate_44 (by decide) (fun c_44 => ?_) (fun c_44 => ?_)
          · refine lv_iconst (v := nI 0) hx hb dX8_truncate_66 (by decide) ?_
            refine mm_top (y := mm_b false) rfl ?_
            refine mm_ri (va_runV (As := [.int (mm_b (inR a (s_nv S))), .int (mm_b false), .int (mm_b false)]) (rest := []) ⟨hx, hb, hml, hown, hts⟩ (t_check l hT) (cwV 3 hts (lw_V q2841 q2843 qs110 q164 q2844) rfl rfl rfl (by decide +kernel) ⟨Nat.le_of_ble_eq_true rfl, Nat.le_of_ble_eq_true rfl⟩) (mm_pV hKK (mm_rc hKK hT.2.1 mm_le.rf rfl)) rfl rfl hl.1 rfl (lv_room (Nat.le_of_ble_eq_true rfl)) dX8_truncate_67 ⟨Nat.le_of_ble_eq_true rfl, Nat.le_of_ble_eq_true rfl⟩) hS (mm_sS hS) (fun H_67 L_67 hT hz_67 hq_67 hS => ?_)
            have h3 : trC S a b = false := by unfold trC; rw [h2]; rfl
            refine mm_top (y := mm_b false) (by rw [Bool.and_false]) ?_
            refine mm_ifneB (tgt := 75) hx hb dX8_truncate_70 (by decide) (fun c_70 => ?_) (fun c_70 => ?_)
            · exact absurd c_70 (by decide)
            · refine lv_iconst (v := nI 0) hx hb dX8_truncate_73 (by decide) ?_
              exact mm_iret (v := nI 0) hx hb hr hlk hS (Nat.le_of_ble_eq_true rfl) (Nat.le_of_ble_eq_true rfl) (⟨by rw [qv_f h3]; rfl, _, F, hT, by rw [if_neg (by rw [h3]; decide), h2, h3]; exact ⟨rfl, rfl⟩⟩) dX8_truncate_74
          · exact absurd c_44 (by decide)
        · refine lv_iconst (v := nI 1) hx hb dX8_truncate_31 (by decide) ?_
          refine mm_top (y := mm_b true) rfl ?_
          refine lv_goto (tgt := 36) hx hb dX8_truncate_32 (by decide) ?_
          have h2 : trF S a b = true := by unfold trF; rw [hina, decide_eq_true c_11, hcja, tr_in c_11 (by omega) c_28, Bool.or_true]; rfl
          refine lv_istore (lv' := [(4, .int (mm_b true)), (3, .int (mm_b (inR a (s_nv S)))), (0, .ref x), (1, .int (nI ja)), (2, .int b)]) hx hb dX8_truncate_36 hl (by decide) rfl (fun ls hl => ?_)
          refine lv_aload_n hx hb dX8_truncate_38 rfl (lv_at hl 2 rfl) ?_
          refine lv_iload_n hx hb dX8_truncate_39 rfl (lv_at hl 1 rfl) ?_
          refine lv_iload hx hb dX8_truncate_40 (lv_at hl 0 rfl) ?_
          refine lv_iload hx hb dX8_truncate_42 (lv_at hl 0 rfl) ?_
          refine mm_ifeqB (tgt := 66) hx hb dX8_truncate_44 (by decide) (fun c_44 => ?_) (fun c_44 => ?_)
          · exact absurd c_44 (by decide)
          · refine lv_aload_n hx hb dX8_truncate_47 rfl (lv_at hl 2 rfl) ?_
            refine lv_iload_n hx hb dX8_truncate_48 rfl (lv_at hl 3 rfl) ?_
            refine mm_rpu (va_runV (As := [.int (nI ja)]) (rest := [.int (mm_b true), .int (mm_b (inR a (s_nv S))), .ref x]) ⟨hx, hb, hml, hown, hts⟩ (t_isGone l hT hR hW (by first | assumption | omega)) (cwV 1 hts (lw_V q2717 q2719 qs82 q164 q2720) rfl rfl rfl (by decide +kernel) ⟨Nat.le_of_ble_eq_true rfl, Nat.le_of_ble_eq_true rfl⟩) (mm_pV hKK (mm_rc hKK hT.2.1 mm_le.rf rfl)) rfl rfl hl.1 rfl (lv_room (Nat.le_of_ble_eq_true rfl)) dX8_truncate_49 ⟨Nat.le_of_ble_eq_true rfl, Nat.le_of_ble_eq_true rfl⟩) hS (mm_s0 hS) (fun L_49 hS => ?_)
            refine mm_ifneB (tgt := 66) hx hb dX8_truncate_52 (by decide) (fun c_52 => ?_) (fun c_52 => ?_)
            · refine lv_iconst (v := nI 0) hx hb dX8_truncate_66 (by decide) ?_
              refine mm_top (y := mm_b false) rfl ?_
              refine mm_ri (va_runV (As := [.int (mm_b (inR a (s_nv S))), .int (mm_b true), .int (mm_b false)]) (rest := []) ⟨hx, hb, hml, hown, hts⟩ (t_check l hT) (cwV 3 hts (lw_V q2841 q2843 qs110 q164 q2844) rfl rfl rfl (by decide +kernel) ⟨Nat.le_of_ble_eq_true rfl, Nat.le_of_ble_eq_true rfl⟩) (mm_pV hKK (mm_rc hKK hT.2.1 mm_le.rf rfl)) rfl rfl hl.1 rfl (lv_room (Nat.le_of_ble_eq_true rfl)) dX8_truncate_67 ⟨Nat.le_of_ble_eq_true rfl, Nat.le_of_ble_eq_true rfl⟩) hS (mm_sS hS) (fun H_67 L_67 hT hz_67 hq_67 hS => ?_)
              have h3 : trC S a b = false := by unfold trC; rw [hcja, c_52, h2]; rfl
              refine mm_top (y := mm_b false) (by rw [Bool.and_false]) ?_
              refine mm_ifneB (tgt := 75) hx hb dX8_truncate_70 (by decide) (fun c_70 => ?_) (fun c_70 => ?_)
              · exact absurd c_70 (by decide)
              · refine lv_iconst (v := nI 0) hx hb dX8_truncate_73 (by decide) ?_
                exact mm_iret (v := nI 0) hx hb hr hlk hS (Nat.le_of_ble_eq_true rfl) (Nat.le_of_ble_eq_true rfl) (⟨by rw [qv_f h3]; rfl, _, F, hT, by rw [if_neg (by rw [h3]; decide), h2, h3]; exact ⟨rfl, rfl⟩⟩) dX8_truncate_74
            · refine lv_aload_n hx hb dX8_truncate_55 rfl (lv_at hl 2 rfl) ?_
              refine mm_rpu (va_runV (As := []) (rest := [.int (mm_b true), .int (mm_b (inR a (s_nv S))), .ref x]) ⟨hx, hb, hml, hown, hts⟩ (t_hasRoom l hT hR hW) (cwV 0 hts (lw_V q2721 q2723 qs83 q164 q2724) rfl rfl rfl (by decide +kernel) ⟨Nat.le_of_ble_eq_true rfl, Nat.le_of_ble_eq_true rfl⟩) (mm_pV hKK (mm_rc hKK hT.2.1 mm_le.rf rfl)) rfl rfl hl.1 rfl (lv_room (Nat.le_of_ble_eq_true rfl)) dX8_truncate_56 ⟨Nat.le_of_ble_eq_true rfl, Nat.le_of_ble_eq_true rfl⟩) hS (mm_s0 hS) (fun L_56 hS => ?_)
              refine mm_top (y := mm_b (room S)) rfl ?_
              refine mm_ifeqB (tgt := 66) hx hb dX8_truncate_59 (by decide) (fun c_59 => ?_) (fun c_59 => ?_)
              · refine lv_iconst (v := nI 0) hx hb dX8_truncate_66 (by decide) ?_
                refine mm_top (y := mm_b false) rfl ?_
                refine mm_ri (va_runV (As := [.int (mm_b (inR a (s_nv S))), .int (mm_b true), .int (mm_b false)]) (rest := []) ⟨hx, hb, hml, hown, hts⟩ (t_check l hT) (cwV 3 hts (lw_V q2841 q2843 qs110 q164 q2844) rfl rfl rfl (by decide +kernel) ⟨Nat.le_of_ble_eq_true rfl, Nat.le_of_ble_eq_true rfl⟩) (mm_pV hKK (mm_rc hKK hT.2.1 mm_le.rf rfl)) rfl rfl hl.1 rfl (lv_room (Nat.le_of_ble_eq_true rfl)) dX8_truncate_67 ⟨Nat.le_of_ble_eq_true rfl, Nat.le_of_ble_eq_true rfl⟩) hS (mm_sS hS) (fun H_67 L_67 hT hz_67 hq_67 hS => ?_)
                have h3 : trC S a b = false := by unfold trC; rw [c_59, Bool.and_false]
                refine mm_top (y := mm_b false) (by rw [Bool.and_false]) ?_
                refine mm_ifneB (tgt := 75) hx hb dX8_truncate_70 (by decide) (fun c_70 => ?_) (fun c_70 => ?_)
                · exact absurd c_70 (by decide)
                · refine lv_iconst (v := nI 0) hx hb dX8_truncate_73 (by decide) ?_
                  exact mm_iret (v := nI 0) hx hb hr hlk hS (Nat.le_of_ble_eq_true rfl) (Nat.le_of_ble_eq_true rfl) (⟨by rw [qv_f h3]; rfl, _, F, hT, by rw [if_neg (by rw [h3]; decide), h2, h3]; exact ⟨rfl, rfl⟩⟩) dX8_truncate_74
              · refine lv_iconst (v := nI 1) hx hb dX8_truncate_62 (by decide) ?_
                refine mm_top (y := mm_b true) rfl ?_
                refine lv_goto (tgt := 67) hx hb dX8_truncate_63 (by decide) ?_
                refine mm_ri (va_runV (As := [.int (mm_b (inR a (s_nv S))), .int (mm_b true), .int (mm_b true)]) (rest := []) ⟨hx, hb, hml, hown, hts⟩ (t_check l hT) (cwV 3 hts (lw_V q2841 q2843 qs110 q164 q2844) rfl rfl rfl (by decide +kernel) ⟨Nat.le_of_ble_eq_true rfl, Nat.le_of_ble_eq_true rfl⟩) (mm_pV hKK (mm_rc hKK hT.2.1 mm_le.rf rfl)) rfl rfl hl.1 rfl (lv_room (Nat.le_of_ble_eq_true rfl)) dX8_truncate_67 ⟨Nat.le_of_ble_eq_true rfl, Nat.le_of_ble_eq_true rfl⟩) hS (mm_sS hS) (fun H_67 L_67 hT hz_67 hq_67 hS => ?_)
                have h3 : trC S a b = true := by unfold trC; rw [h2, hcja, c_52, c_59]; rfl
                refine mm_top (y := mm_b true) (by rw [hina]; rfl) ?_
                have hinb := tr_in c_11 (show s_len S ja < 2 ^ 30 by omega) c_28
                obtain ⟨jb, hjb, hejb, hcjb⟩ := inR_t hinb
                rw [hejb] at hl
                have hv9 : s_nv S < 40 := of_decide_eq_true c_59
                refine mm_ifneB (tgt := 75) hx hb dX8_truncate_70 (by decide) (fun c_70 => ?_) (fun c_70 => ?_)
                · refine lv_aload_n hx hb dX8_truncate_75 rfl (lv_at hl 2 rfl) ?_
                  refine mm_rv (va_runV (As := []) (rest := []) ⟨hx, hb, hml, hown, hts⟩ (t_remember l hT ((tw_un (by decide)).trans (hk4)) hk8) (cwV 0 hts (lw_V q2697 q2699 qs77 q164 q2700) rfl rfl rfl (by decide +kernel) ⟨Nat.le_of_ble_eq_true rfl, Nat.le_of_ble_eq_true rfl⟩) (mm_pV hKK (mm_rc hKK hT.2.1 mm_le.rf rfl)) rfl rfl hl.1 rfl (lv_room (Nat.le_of_ble_eq_true rfl)) dX8_truncate_76 ⟨Nat.le_of_ble_eq_true rfl, Nat.le_of_ble_eq_true rfl⟩) hS (mm_sS hS) (fun H_76 L_76 hB_76 hz_76 hq_76 hS => ?_)
                  obtain ⟨I_76, F_76, hT, hx4_76, he_76, h3c_76, h3d_76⟩ := hB_76
                  have hR := TRx he_76 (by decide) hR
                  refine lv_aload_n hx hb dX8_truncate_79 rfl (lv_at hl 2 rfl) ?_
                  refine lv_iload_n hx hb dX8_truncate_80 rfl (lv_at hl 3 rfl) ?_
                  refine lv_iload_n hx hb dX8_truncate_81 rfl (lv_at hl 4 rfl) ?_
                  refine mm_ri (va_runV (As := [.int (nI ja), .int (nI jb)]) (rest := []) ⟨hx, hb, hml, hown, hts⟩ (t_makeTruncate l hT hR hW hRg hja c_19 hv9 hnn9 (by omega)) (cwV 2 hts (lw_V q2777 q2779 qs97 q164 q2780) rfl rfl rfl (by decide +kernel) ⟨Nat.le_of_ble_eq_true rfl, Nat.le_of_ble_eq_true rfl⟩) (mm_pV hKK (mm_rc hKK hT.2.1 mm_le.rf rfl)) rfl rfl hl.1 rfl (lv_room (Nat.le_of_ble_eq_true rfl)) dX8_truncate_82 ⟨Nat.le_of_ble_eq_true rfl, Nat.le_of_ble_eq_true rfl⟩) hS (mm_sS hS) (fun H_82 L_82 hB_82 hz_82 hq_82 hS => ?_)
                  obtain ⟨F_82, hT, he_82, hR⟩ := hB_82
                  exact mm_iret (v := nI (s_nv S)) hx hb hr hlk hS (Nat.le_of_ble_eq_true rfl) (Nat.le_of_ble_eq_true rfl) (⟨by rw [qv_t h3], I_76, F_82, hT, by rw [if_pos h3, h2, h3, hcja, hcjb]; exact ⟨⟨hx4_76, fun j hj => (congrFun (he_82 3 (by decide)) _).trans (h3c_76 j hj), fun j hj => (congrFun (he_82 3 (by decide)) _).trans (h3d_76 j hj)⟩, (he_76.mono (by decide)).tr (he_82.mono (by decide)), hR⟩⟩) dX8_truncate_85
                · exact absurd c_70 (by decide)
