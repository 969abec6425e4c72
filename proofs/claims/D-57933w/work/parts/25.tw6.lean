/-! the twin: cut, addVersion (printed by tools/tw6.py) -/
set_option maxRecDepth 100000 in
theorem t_cut (l : Launch) {G : mm_G} {P : mm_H} {H : Heap} {x : Nat} {ad : Nat → Nat} {I : Nat → Int32} {F : Nat → Nat → Int32} {S : sp_S} (h : Nat) {k len : Nat} (hT : TW G x ad I F H) (hR : TR (F 0) S) (hW : WF S) (hg : Hgt S h k) (hin : cuT S h k len) (hh3 : h ≤ 4) (hn9 : s_nn S + h ≤ 190) (hi64 : len ≤ 256) : Mt l yX8_cut (ws_ yX8_cut cX8_cut 8 (some .int)) ((h + 6)) ((h * 60 + 300)) 0 0 G P [.ref x, .int (nI k), .int (nI h), .int (nI len)] H (tw_M x ad) (mm_i (nI (ctP S h k len).1) (fun H2 => ∃ F2, TW G x ad I F2 H2 ∧ eqx [0, 7] F F2 ∧ TR (F2 0) (ctP S h k len).2)) := by
  induction h generalizing k len F H with
  | zero => exact hg.elim
  | succ h ihr =>
    refine Mt.of (by decide) (Nat.le_of_ble_eq_true rfl) (fun p e s m below meth c ls hx hb hr hlk hml hown hnm hts hKK hsH hl hS => ?_)
    have hl : lv_has ls 8 [(0, .ref x), (1, .int (nI k)), (2, .int (nI ((h + 1)))), (3, .int (nI len))] := hl
    have hR0 := hR
    have hMx : mm_A (tw_M x ad) H x := Or.inl (Or.inl rfl)
    have hMa : ∀ j, tw_isA j = true → mm_A (tw_M x ad) H (ad j) := fun j hj => Or.inl (Or.inr ⟨j, hj, rfl⟩)
    have hnv := hW.nv
    have hnn := hW.nn
    have hp64 := p4_le hh3
    have hpos := p4_pos h
    have hk := hg.1
    have hck := hW.cnt hk
    have heu := eU_le hW hg
    have hpu := Nat.pow_succ 4 h
    have hl1 := hin.1
    refine lv_aload_n hx hb dX8_cut_0 rfl (lv_at hl 0 rfl) ?_
    refine lv_iload_n hx hb dX8_cut_1 rfl (lv_at hl 1 rfl) ?_
    refine mm_rpu (va_runV (As := [.int (nI k)]) (rest := []) ⟨hx, hb, hml, hown, hts⟩ (t_elementsUnder l (h + 1) hT hR hW hg) (cwV 1 hts (lw_V q2789 q2791 qs100 q164 q2792) rfl rfl rfl (by decide +kernel) ⟨by simp only [mm_rm]; omega, by simp only [mm_rm]; omega⟩) (mm_pV hKK (mm_rc hKK hT.2.1 mm_le.rf rfl)) rfl rfl hl.1 rfl (lv_room (Nat.le_of_ble_eq_true rfl)) dX8_cut_2 ⟨Nat.le_of_ble_eq_true rfl, Nat.le_of_ble_eq_true rfl⟩) hS (mm_s0 hS) (fun L_2 hS => ?_)
    refine lv_iload_n hx hb dX8_cut_5 rfl (lv_at hl 3 rfl) ?_
    refine mm_icmp_ne (tgt := 11) (by omega) (by omega) hx hb dX8_cut_6 (by decide) (fun c_6 => ?_) (fun c_6 => ?_)
    · obtain ⟨hq4, hcu⟩ := hin.2.resolve_left c_6
      refine lv_iload_n hx hb dX8_cut_11 rfl (lv_at hl 3 rfl) ?_
      refine lv_iconst (v := nI 1) hx hb dX8_cut_12 (by decide) ?_
      refine mm_isub (by omega) hx hb dX8_cut_13 ?_
      refine lv_istore (lv' := [(4, .int (nI (len - 1))), (0, .ref x), (1, .int (nI k)), (2, .int (nI ((h + 1)))), (3, .int (nI len))]) hx hb dX8_cut_14 hl (by decide) rfl (fun ls hl => ?_)
      refine lv_iload_n hx hb dX8_cut_16 rfl (lv_at hl 3 rfl) ?_
      refine lv_iconst (v := nI 1) hx hb dX8_cut_17 (by decide) ?_
      refine mm_icmp_ne (tgt := 38) (by omega) (by omega) hx hb dX8_cut_18 (by decide) (fun c_18 => ?_) (fun c_18 => ?_)
      · have hz : h ≠ 0 := by omega
        refine lv_iload_n hx hb dX8_cut_38 rfl (lv_at hl 3 rfl) ?_
        refine lv_iconst (v := nI 1) hx hb dX8_cut_39 (by decide) ?_
        refine mm_isub (by omega) hx hb dX8_cut_40 ?_
        refine mm_top (y := nI h) (congrArg nI (by omega)) ?_
        refine mm_rpu (va_runS (As := [.int (nI h)]) (rest := []) ⟨hx, hb, hml, hown, hts⟩ (t_span l (by omega)) (va_cwS 1 hts (lw_S q2484 q2485 q164 q2486) rfl rfl rfl (by decide +kernel) ⟨by simp only [mm_rm]; omega, by simp only [mm_rm]; omega⟩) (mm_pS hKK) rfl rfl hl.1 rfl (lv_room (Nat.le_of_ble_eq_true rfl)) dX8_cut_41 ⟨Nat.le_of_ble_eq_true rfl, Nat.le_of_ble_eq_true rfl⟩) hS (mm_s0 hS) (fun L_41 hS => ?_)
        have hl9 : s_leaf S k = false := lf_false hg hz
        have hE := hW.ent hk hl9 hq4
        have hm9 : (len - 1) % 4 ^ h < 4 ^ h := Nat.mod_lt _ hpos
        have hgk := hg.chd hl9 hq4
        obtain ⟨hx1, hx2, hx3⟩ := ctP_ex hgk (hcu hz)
        have hW2 : WF (ctP S h (s_chd S k ((len - 1) / 4 ^ h)) ((len - 1) % 4 ^ h + 1)).2 := ctP_WF hW hgk (hcu hz) (by omega)
        refine lv_istore (lv' := [(5, .int (nI (4 ^ h))), (4, .int (nI (len - 1))), (0, .ref x), (1, .int (nI k)), (2, .int (nI ((h + 1)))), (3, .int (nI len))]) hx hb dX8_cut_44 hl (by decide) rfl (fun ls hl => ?_)
        refine lv_iload hx hb dX8_cut_46 (lv_at hl 1 rfl) ?_
        refine lv_iload hx hb dX8_cut_48 (lv_at hl 0 rfl) ?_
        refine mm_idiv (by omega) (by omega) (by omega) hx hb dX8_cut_50 ?_
        refine lv_istore (lv' := [(6, .int (nI ((len - 1) / (4 ^ h)))), (5, .int (nI (4 ^ h))), (4, .int (nI (len - 1))), (0, .ref x), (1, .int (nI k)), (2, .int (nI ((h + 1)))), (3, .int (nI len))]) hx hb dX8_cut_51 hl (by decide) rfl (fun ls hl => ?_)
        refine lv_aload_n hx hb dX8_cut_53 rfl (lv_at hl 3 rfl) ?_
        refine lv_aload_n hx hb dX8_cut_54 rfl (lv_at hl 3 rfl) ?_
        refine lv_iload_n hx hb dX8_cut_55 rfl (lv_at hl 4 rfl) ?_
        refine lv_iload hx hb dX8_cut_56 (lv_at hl 0 rfl) ?_
        refine mm_rpu (va_runV (As := [.int (nI k), .int (nI ((len - 1) / (4 ^ h)))]) (rest := [.ref x]) ⟨hx, hb, hml, hown, hts⟩ (t_entry l hT hR hW (by first | assumption | omega) (by first | assumption | omega)) (cwV 2 hts (lw_V q2753 q2755 qs91 q164 q2756) rfl rfl rfl (by decide +kernel) ⟨by simp only [mm_rm]; omega, by simp only [mm_rm]; omega⟩) (mm_pV hKK (mm_rc hKK hT.2.1 mm_le.rf rfl)) rfl rfl hl.1 rfl (lv_room (Nat.le_of_ble_eq_true rfl)) dX8_cut_58 ⟨Nat.le_of_ble_eq_true rfl, Nat.le_of_ble_eq_true rfl⟩) hS (mm_s0 hS) (fun L_58 hS => ?_)
        refine mm_top (y := nI (s_chd S k ((len - 1) / 4 ^ h))) (hE.1) ?_
        refine lv_iload_n hx hb dX8_cut_61 rfl (lv_at hl 5 rfl) ?_
        refine lv_iconst (v := nI 1) hx hb dX8_cut_62 (by decide) ?_
        refine mm_isub (by omega) hx hb dX8_cut_63 ?_
        refine mm_top (y := nI h) (congrArg nI (by omega)) ?_
        refine lv_iload hx hb dX8_cut_64 (lv_at hl 2 rfl) ?_
        refine lv_iload hx hb dX8_cut_66 (lv_at hl 1 rfl) ?_
        refine mm_irem (by omega) (by omega) (by omega) hx hb dX8_cut_68 ?_
        refine lv_iconst (v := nI 1) hx hb dX8_cut_69 (by decide) ?_
        refine mm_iadd hx hb dX8_cut_70 ?_
        refine mm_ri (va_runV (As := [.int (nI (s_chd S k ((len - 1) / 4 ^ h))), .int (nI h), .int (nI ((len - 1) % (4 ^ h) + 1))]) (rest := []) ⟨hx, hb, hml, hown, hts⟩ (ihr hT hR hgk (hcu hz) (by omega) (by omega) (by omega)) (cwV 3 hts (lw_V q2785 q2787 qs99 q164 q2788) rfl rfl rfl (by decide +kernel) ⟨by simp only [mm_rm]; omega, by simp only [mm_rm]; omega⟩) (mm_pV hKK (mm_rc hKK hT.2.1 mm_le.rf rfl)) rfl rfl hl.1 rfl (lv_room (Nat.le_of_ble_eq_true rfl)) dX8_cut_71 ⟨Nat.le_of_ble_eq_true rfl, Nat.le_of_ble_eq_true rfl⟩) hS (mm_sS hS) (fun H_71 L_71 hB_71 hz_71 hq_71 hS => ?_)
        obtain ⟨F_71, hT, he_71, hR⟩ := hB_71
        refine lv_istore (lv' := [(7, .int (nI ((ctP S h (s_chd S k ((len - 1) / 4 ^ h)) ((len - 1) % 4 ^ h + 1)).1))), (6, .int (nI ((len - 1) / (4 ^ h)))), (5, .int (nI (4 ^ h))), (4, .int (nI (len - 1))), (0, .ref x), (1, .int (nI k)), (2, .int (nI ((h + 1)))), (3, .int (nI len))]) hx hb dX8_cut_74 hl (by decide) rfl (fun ls hl => ?_)
        refine lv_aload_n hx hb dX8_cut_76 rfl (lv_at hl 4 rfl) ?_
        refine lv_iload_n hx hb dX8_cut_77 rfl (lv_at hl 5 rfl) ?_
        refine lv_iload hx hb dX8_cut_78 (lv_at hl 1 rfl) ?_
        refine lv_iload hx hb dX8_cut_80 (lv_at hl 0 rfl) ?_
        refine lv_iconst (v := nI 1) hx hb dX8_cut_82 (by decide) ?_
        refine mm_top (y := mm_b true) rfl ?_
        refine lv_iconst (v := nI 0) hx hb dX8_cut_83 (by decide) ?_
        refine mm_top (y := mm_b false) rfl ?_
        refine mm_ri (va_runV (As := [.int (nI k), .int (nI ((len - 1) / (4 ^ h))), .int (nI ((ctP S h (s_chd S k ((len - 1) / 4 ^ h)) ((len - 1) % 4 ^ h + 1)).1)), .int (mm_b true), .int (mm_b false)]) (rest := []) ⟨hx, hb, hml, hown, hts⟩ (t_remake l (S := (ctP S h (s_chd S k ((len - 1) / 4 ^ h)) ((len - 1) % 4 ^ h + 1)).2) (o := (some k)) hT hR hW2 (by omega) (by omega) (fun r hr => by cases hr; have := hx1.2.2.1; omega) (Or.inl (by rw [(hx1.cntO (o := some k) (fun r hr => by cases hr; exact hk)).1]; exact Nat.le_of_lt hq4))) (cwV 5 hts (lw_V q2741 q2743 qs88 q164 q2744) rfl rfl rfl (by decide +kernel) ⟨by simp only [mm_rm]; omega, by simp only [mm_rm]; omega⟩) (mm_pV hKK (mm_rc hKK hT.2.1 mm_le.rf rfl)) rfl rfl hl.1 rfl (lv_room (Nat.le_of_ble_eq_true rfl)) dX8_cut_84 ⟨Nat.le_of_ble_eq_true rfl, Nat.le_of_ble_eq_true rfl⟩) hS (mm_sS hS) (fun H_84 L_84 hB_84 hz_84 hq_84 hS => ?_)
        obtain ⟨F_84, hT, he_84, hR_84⟩ := hB_84
        exact mm_iret (v := nI (s_nn (ctP S h (s_chd S k ((len - 1) / 4 ^ h)) ((len - 1) % 4 ^ h + 1)).2)) hx hb hr hlk hS (Nat.le_of_ble_eq_true rfl) (Nat.le_of_ble_eq_true rfl) (⟨by rw [ctP_s c_6 hz], F_84, hT, he_71.tr he_84, by rw [ctP_s c_6 hz]; exact cut_s hx1 hk hR_84⟩) dX8_cut_87
      · obtain rfl : h = 0 := by omega
        rw [Nat.pow_zero, Nat.div_one] at hq4
        refine lv_aload_n hx hb dX8_cut_21 rfl (lv_at hl 1 rfl) ?_
        refine lv_iload_n hx hb dX8_cut_22 rfl (lv_at hl 2 rfl) ?_
        refine lv_iload hx hb dX8_cut_23 (lv_at hl 0 rfl) ?_
        refine lv_aload_n hx hb dX8_cut_25 rfl (lv_at hl 1 rfl) ?_
        refine lv_iload_n hx hb dX8_cut_26 rfl (lv_at hl 2 rfl) ?_
        refine lv_iload hx hb dX8_cut_27 (lv_at hl 0 rfl) ?_
        refine mm_rpu (va_runV (As := [.int (nI k), .int (nI (len - 1))]) (rest := [.int (nI (len - 1)), .int (nI k), .ref x]) ⟨hx, hb, hml, hown, hts⟩ (t_entry l hT hR hW (by first | assumption | omega) (by first | assumption | omega)) (cwV 2 hts (lw_V q2753 q2755 qs91 q164 q2756) rfl rfl rfl (by decide +kernel) ⟨by simp only [mm_rm]; omega, by simp only [mm_rm]; omega⟩) (mm_pV hKK (mm_rc hKK hT.2.1 mm_le.rf rfl)) rfl rfl hl.1 rfl (lv_room (Nat.le_of_ble_eq_true rfl)) dX8_cut_29 ⟨Nat.le_of_ble_eq_true rfl, Nat.le_of_ble_eq_true rfl⟩) hS (mm_s0 hS) (fun L_29 hS => ?_)
        refine lv_iconst (v := nI 1) hx hb dX8_cut_32 (by decide) ?_
        refine mm_top (y := mm_b true) rfl ?_
        refine lv_iconst (v := nI 1) hx hb dX8_cut_33 (by decide) ?_
        refine mm_top (y := mm_b true) rfl ?_
        refine mm_ri (va_runV (As := [.int (nI k), .int (nI (len - 1)), .int (s_ent S k (len - 1)), .int (mm_b true), .int (mm_b true)]) (rest := []) ⟨hx, hb, hml, hown, hts⟩ (t_remake l (S := S) (o := (some k)) hT hR hW (by omega) (by omega) (fun r hr => by cases hr; exact hk) (Or.inl (Nat.le_of_lt hq4))) (cwV 5 hts (lw_V q2741 q2743 qs88 q164 q2744) rfl rfl rfl (by decide +kernel) ⟨by simp only [mm_rm]; omega, by simp only [mm_rm]; omega⟩) (mm_pV hKK (mm_rc hKK hT.2.1 mm_le.rf rfl)) rfl rfl hl.1 rfl (lv_room (Nat.le_of_ble_eq_true rfl)) dX8_cut_34 ⟨Nat.le_of_ble_eq_true rfl, Nat.le_of_ble_eq_true rfl⟩) hS (mm_sS hS) (fun H_34 L_34 hB_34 hz_34 hq_34 hS => ?_)
        obtain ⟨F_34, hT, he_34, hR_34⟩ := hB_34
        exact mm_iret (v := nI (s_nn S)) hx hb hr hlk hS (Nat.le_of_ble_eq_true rfl) (Nat.le_of_ble_eq_true rfl) (⟨by rw [ctP_1 c_6], F_34, hT, he_34, cut_1 hin.1 c_6 hR_34⟩) dX8_cut_37
    · refine lv_iload_n hx hb dX8_cut_9 rfl (lv_at hl 1 rfl) ?_
      exact mm_iret (v := nI k) hx hb hr hlk hS (Nat.le_of_ble_eq_true rfl) (Nat.le_of_ble_eq_true rfl) (⟨by rw [ctP_same c_6], F, hT, eqx.rf, by rw [ctP_same c_6]; exact hR⟩) dX8_cut_10
set_option maxRecDepth 100000 in
theorem t_addVersion (l : Launch) {G : mm_G} {P : mm_H} {H : Heap} {x : Nat} {ad : Nat → Nat} {I : Nat → Int32} {F : Nat → Nat → Int32} {S : sp_S} {par root : Option Nat} {len bf : Nat} (hT : TW G x ad I F H) (hR : TR (F 0) S) (hW : WF S) (hv9 : s_nv S < 40) (hl9 : len ≤ 64) (hpr : ∀ r, par = some r → r < s_nv S) (hbf : bf ≤ s_nn S) : Mt l yX8_addVersion (ws_ yX8_addVersion cX8_addVersion 9 (some .int)) 6 200 0 0 G P [.ref x, .int (oI par), .int (nI len), .int (oI root), .int (nI bf)] H (tw_M x ad) (mm_i (nI (s_nv S)) (fun H2 => ∃ F2, TW G x ad I F2 H2 ∧ eqx [0] F F2 ∧ TR (F2 0) (addV S par len root bf (pE S par len)))) := by
  refine Mt.of (by decide) (Nat.le_of_ble_eq_true rfl) (fun p e s m below meth c ls hx hb hr hlk hml hown hnm hts hKK hsH hl hS => ?_)
  have hl : lv_has ls 9 [(0, .ref x), (1, .int (oI par)), (2, .int (nI len)), (3, .int (oI root)), (4, .int (nI bf))] := hl
  have hR0 := hR
  have hMx : mm_A (tw_M x ad) H x := Or.inl (Or.inl rfl)
  have hMa : ∀ j, tw_isA j = true → mm_A (tw_M x ad) H (ad j) := fun j hj => Or.inl (Or.inr ⟨j, hj, rfl⟩)
  have hnv := hW.nv
  have hnn := hW.nn
  refine lv_aload_n hx hb dX8_addVersion_0 rfl (lv_at hl 0 rfl) ?_
  refine tw_geta 0 hx hb hts hown hKK hT rfl rfl (hts _ q2498) dX8_addVersion_1 ?_
  refine lv_iconst (v := nI 0) hx hb dX8_addVersion_4 (by decide) ?_
  refine mm_iald (k := 0) hx hb hKK (hT.2.2 0 rfl) mm_le.rf (by show _ < 4210; omega) (by decide) dX8_addVersion_5 ?_
  refine mm_top (y := nI (s_nv S)) (hR.nv) ?_
  refine lv_istore (lv' := [(5, .int (nI (s_nv S))), (0, .ref x), (1, .int (oI par)), (2, .int (nI len)), (3, .int (oI root)), (4, .int (nI bf))]) hx hb dX8_addVersion_6 hl (by decide) rfl (fun ls hl => ?_)
  refine lv_iload hx hb dX8_addVersion_8 (lv_at hl 0 rfl) ?_
  refine mm_rpu (va_runS (As := [.int (nI (s_nv S))]) (rest := []) ⟨hx, hb, hml, hown, hts⟩ (t_v l ) (va_cwS 1 hts (lw_S q2478 q2479 q164 q2480) rfl rfl rfl (by decide +kernel) ⟨Nat.le_of_ble_eq_true rfl, Nat.le_of_ble_eq_true rfl⟩) (mm_pS hKK) rfl rfl hl.1 rfl (lv_room (Nat.le_of_ble_eq_true rfl)) dX8_addVersion_10 ⟨Nat.le_of_ble_eq_true rfl, Nat.le_of_ble_eq_true rfl⟩) hS (mm_s0 hS) (fun L_10 hS => ?_)
  refine lv_istore (lv' := [(6, .int (nI (10 + 6 * (s_nv S)))), (5, .int (nI (s_nv S))), (0, .ref x), (1, .int (oI par)), (2, .int (nI len)), (3, .int (oI root)), (4, .int (nI bf))]) hx hb dX8_addVersion_13 hl (by decide) rfl (fun ls hl => ?_)
  refine lv_aload_n hx hb dX8_addVersion_15 rfl (lv_at hl 2 rfl) ?_
  refine tw_geta 0 hx hb hts hown hKK hT rfl rfl (hts _ q2498) dX8_addVersion_16 ?_
  refine lv_iload hx hb dX8_addVersion_19 (lv_at hl 0 rfl) ?_
  refine lv_iconst (v := nI 0) hx hb dX8_addVersion_21 (by decide) ?_
  refine mm_iadd hx hb dX8_addVersion_22 ?_
  refine mm_top (y := nI (10 + 6 * (s_nv S))) (congrArg nI (by omega)) ?_
  refine lv_iload_n hx hb dX8_addVersion_23 rfl (lv_at hl 4 rfl) ?_
  refine tw_st 0 (k := (10 + 6 * (s_nv S))) hx hb hKK hT hS hMa rfl rfl (by show _ < 4210; omega) dX8_addVersion_24 (fun H_24 L_24 hT hz_24 hq_24 hS => ?_)
  refine lv_aload_n hx hb dX8_addVersion_25 rfl (lv_at hl 2 rfl) ?_
  refine tw_geta 0 hx hb hts hown hKK hT rfl rfl (hts _ q2498) dX8_addVersion_26 ?_
  refine lv_iload hx hb dX8_addVersion_29 (lv_at hl 0 rfl) ?_
  refine lv_iconst (v := nI 1) hx hb dX8_addVersion_31 (by decide) ?_
  refine mm_iadd hx hb dX8_addVersion_32 ?_
  refine lv_iload_n hx hb dX8_addVersion_33 rfl (lv_at hl 5 rfl) ?_
  refine tw_st 0 (k := (10 + 6 * (s_nv S) + 1)) hx hb hKK hT hS hMa rfl rfl (by show _ < 4210; omega) dX8_addVersion_34 (fun H_34 L_34 hT hz_34 hq_34 hS => ?_)
  refine lv_aload_n hx hb dX8_addVersion_35 rfl (lv_at hl 2 rfl) ?_
  refine tw_geta 0 hx hb hts hown hKK hT rfl rfl (hts _ q2498) dX8_addVersion_36 ?_
  refine lv_iload hx hb dX8_addVersion_39 (lv_at hl 0 rfl) ?_
  refine lv_iconst (v := nI 2) hx hb dX8_addVersion_41 (by decide) ?_
  refine mm_iadd hx hb dX8_addVersion_42 ?_
  refine lv_iload_n hx hb dX8_addVersion_43 rfl (lv_at hl 4 rfl) ?_
  refine mm_rpu (va_runS (As := [.int (nI len)]) (rest := [.int (nI (10 + 6 * (s_nv S) + 2)), .ref (ad 0)]) ⟨hx, hb, hml, hown, hts⟩ (t_heightFor l (by omega)) (va_cwS 1 hts (lw_S q2481 q2482 q164 q2483) rfl rfl rfl (by decide +kernel) ⟨Nat.le_of_ble_eq_true rfl, Nat.le_of_ble_eq_true rfl⟩) (mm_pS hKK) rfl rfl hl.1 rfl (lv_room (Nat.le_of_ble_eq_true rfl)) dX8_addVersion_44 ⟨Nat.le_of_ble_eq_true rfl, Nat.le_of_ble_eq_true rfl⟩) hS (mm_s0 hS) (fun L_44 hS => ?_)
  refine tw_st 0 (k := (10 + 6 * (s_nv S) + 2)) hx hb hKK hT hS hMa rfl rfl (by show _ < 4210; omega) dX8_addVersion_47 (fun H_47 L_47 hT hz_47 hq_47 hS => ?_)
  refine lv_aload_n hx hb dX8_addVersion_48 rfl (lv_at hl 2 rfl) ?_
  refine tw_geta 0 hx hb hts hown hKK hT rfl rfl (hts _ q2498) dX8_addVersion_49 ?_
  refine lv_iload hx hb dX8_addVersion_52 (lv_at hl 0 rfl) ?_
  refine lv_iconst (v := nI 3) hx hb dX8_addVersion_54 (by decide) ?_
  refine mm_iadd hx hb dX8_addVersion_55 ?_
  refine lv_iload_n hx hb dX8_addVersion_56 rfl (lv_at hl 3 rfl) ?_
  refine tw_st 0 (k := (10 + 6 * (s_nv S) + 3)) hx hb hKK hT hS hMa rfl rfl (by show _ < 4210; omega) dX8_addVersion_57 (fun H_57 L_57 hT hz_57 hq_57 hS => ?_)
  refine lv_aload_n hx hb dX8_addVersion_58 rfl (lv_at hl 2 rfl) ?_
  refine tw_geta 0 hx hb hts hown hKK hT rfl rfl (hts _ q2498) dX8_addVersion_59 ?_
  refine lv_iload hx hb dX8_addVersion_62 (lv_at hl 0 rfl) ?_
  refine lv_iconst (v := nI 4) hx hb dX8_addVersion_64 (by decide) ?_
  refine mm_iadd hx hb dX8_addVersion_65 ?_
  refine lv_iconst (v := nI 0) hx hb dX8_addVersion_66 (by decide) ?_
  refine tw_st 0 (k := (10 + 6 * (s_nv S) + 4)) hx hb hKK hT hS hMa rfl rfl (by show _ < 4210; omega) dX8_addVersion_67 (fun H_67 L_67 hT hz_67 hq_67 hS => ?_)
  refine lv_aload_n hx hb dX8_addVersion_68 rfl (lv_at hl 2 rfl) ?_
  refine tw_geta 0 hx hb hts hown hKK hT rfl rfl (hts _ q2498) dX8_addVersion_69 ?_
  refine lv_iload hx hb dX8_addVersion_72 (lv_at hl 0 rfl) ?_
  refine lv_iconst (v := nI 5) hx hb dX8_addVersion_74 (by decide) ?_
  refine mm_iadd hx hb dX8_addVersion_75 ?_
  refine lv_aload_n hx hb dX8_addVersion_76 rfl (lv_at hl 2 rfl) ?_
  refine tw_geta 0 hx hb hts hown hKK hT rfl rfl (hts _ q2498) dX8_addVersion_77 ?_
  refine lv_iconst (v := nI 1) hx hb dX8_addVersion_80 (by decide) ?_
  refine mm_iald (k := 1) hx hb hKK (hT.2.2 0 rfl) mm_le.rf (by show _ < 4210; omega) (by decide) dX8_addVersion_81 ?_
  refine mm_top (y := nI (s_nn S)) ((by rw [tw_us, pk_un (by omega)]; rw [tw_us, pk_un (by omega)]; rw [tw_us, pk_un (by omega)]; rw [tw_us, pk_un (by omega)]; rw [tw_us, pk_un (by omega)]; exact hR.nn)) ?_
  refine lv_iload hx hb dX8_addVersion_82 (lv_at hl 6 rfl) ?_
  refine mm_isub (by omega) hx hb dX8_addVersion_84 ?_
  refine tw_st 0 (k := (10 + 6 * (s_nv S) + 5)) hx hb hKK hT hS hMa rfl rfl (by show _ < 4210; omega) dX8_addVersion_85 (fun H_85 L_85 hT hz_85 hq_85 hS => ?_)
  refine lv_iconst (v := nI 0) hx hb dX8_addVersion_86 (by decide) ?_
  refine lv_istore (lv' := [(7, .int (nI 0)), (6, .int (nI (10 + 6 * (s_nv S)))), (5, .int (nI (s_nv S))), (0, .ref x), (1, .int (oI par)), (2, .int (nI len)), (3, .int (oI root)), (4, .int (nI bf))]) hx hb dX8_addVersion_87 hl (by decide) rfl (fun ls hl => ?_)
  have lp_89 : ∀ (fu : Nat) (i : Nat) (H1 : Heap) (F1 : Nat → Nat → Int32) (L : List Loc) (ls : Array Slot), 64 - i < fu → (i ≤ 64) → lv_has ls 9 [(7, .int (nI i)), (0, .ref x), (1, .int (oI par)), (2, .int (nI len)), (5, .int (nI (s_nv S)))] → (TW G x ad I F1 H1) → (eqx [0] F F1) → (∀ j, (j < 10 + 6 * s_nv S ∨ 10 + 6 * s_nv S + 6 ≤ j) → (j < 250 + 64 * s_nv S ∨ 250 + 64 * s_nv S + 64 ≤ j) → F1 0 j = F 0 j) → (F1 0 (10 + 6 * s_nv S) = nI len) → (F1 0 (10 + 6 * s_nv S + 1) = oI root) → (F1 0 (10 + 6 * s_nv S + 2) = nI (hf len)) → (F1 0 (10 + 6 * s_nv S + 3) = oI par) → (F1 0 (10 + 6 * s_nv S + 4) = nI 0) → (F1 0 (10 + 6 * s_nv S + 5) = nI (s_nn S - bf)) → (∀ j, j < i → F1 0 (250 + 64 * s_nv S + j) = pE S par len j) → va_S (mm_A (tw_M x ad) H) H H1 L → W p l e (mm_rm 6 200 0 0) s m ([.ref x, .int (oI par), .int (nI len), .int (oI root), .int (nI bf)] : List Value).toArray below meth c H1 L 0 0 (MQ below (mm_Qc H (tw_M x ad) (mm_i (nI (s_nv S)) (fun H2 => ∃ F2, TW G x ad I F2 H2 ∧ eqx [0] F F2 ∧ TR (F2 0) (addV S par len root bf (pE S par len))))) ([.ref x, .int (oI par), .int (nI len), .int (oI root), .int (nI bf)] : List Value).toArray s 0 0 (mm_A (tw_M x ad) H)) (F0 m 89 ls []) := by
    intro fu; induction fu with
    | zero => intro i H1 F1 L ls hfu; exact absurd hfu (Nat.not_lt_zero _)
    | succ fu ih =>
      intro i H1 F1 L ls hfu hi hl hT he h0 a0 a1 a2 a3 a4 a5 hel hS
      have ih_89 := ih
      have hR := TR_keepV hR0 hW hv9 h0
      refine lv_iload hx hb dX8_addVersion_89 (lv_at hl 0 rfl) ?_
      refine lv_bipush (v := nI 64) hx hb dX8_addVersion_91 (by decide) ?_
      refine mm_icmp_ge (tgt := 157) (by omega) (by omega) hx hb dX8_addVersion_93 (by decide) (fun c_93 => ?_) (fun c_93 => ?_)
      · refine lv_aload_n hx hb dX8_addVersion_157 rfl (lv_at hl 1 rfl) ?_
        refine tw_geta 0 hx hb hts hown hKK hT rfl rfl (hts _ q2498) dX8_addVersion_158 ?_
        refine lv_iconst (v := nI 0) hx hb dX8_addVersion_161 (by decide) ?_
        refine lv_dup2_11 hx hb dX8_addVersion_162 rfl rfl ?_
        refine mm_iald (k := 0) hx hb hKK (hT.2.2 0 rfl) mm_le.rf (by show _ < 4210; omega) (by decide) dX8_addVersion_163 ?_
        refine mm_top (y := nI (s_nv S)) ((h0 0 (by omega) (by omega)).trans hR0.nv) ?_
        refine lv_iconst (v := nI 1) hx hb dX8_addVersion_164 (by decide) ?_
        refine mm_iadd hx hb dX8_addVersion_165 ?_
        refine tw_st 0 (k := 0) hx hb hKK hT hS hMa rfl rfl (by show _ < 4210; omega) dX8_addVersion_166 (fun H_166 L_166 hT hz_166 hq_166 hS => ?_)
        refine lv_iload hx hb dX8_addVersion_167 (lv_at hl 4 rfl) ?_
        exact mm_iret (v := nI (s_nv S)) hx hb hr hlk hS (Nat.le_of_ble_eq_true rfl) (Nat.le_of_ble_eq_true rfl) (⟨rfl, _, hT, he.tr (eqx.u (by decide)), mk_TRV hR0 hW hv9 hl9 h0 a0 a1 a2 a3 a4 a5 (fun j hj => hel j (by omega))⟩) dX8_addVersion_169
      · refine lv_iload_n hx hb dX8_addVersion_96 rfl (lv_at hl 2 rfl) ?_
        refine lv_iconst (v := (-1)) hx hb dX8_addVersion_97 (by decide) ?_
        refine mm_icmp_eqM (tgt := 119) (fun r hr => by have := hpr r hr; omega) hx hb dX8_addVersion_98 (by decide) (fun c_98 => ?_) (fun r_98 c_98 => ?_)
        · refine lv_iconst (v := nI 0) hx hb dX8_addVersion_119 (by decide) ?_
          refine lv_istore (lv' := [(8, .int (nI 0)), (7, .int (nI i)), (0, .ref x), (1, .int (oI par)), (2, .int (nI len)), (5, .int (nI (s_nv S)))]) hx hb dX8_addVersion_120 hl (by decide) rfl (fun ls hl => ?_)
          refine lv_aload_n hx hb dX8_addVersion_122 rfl (lv_at hl 2 rfl) ?_
          refine tw_geta 0 hx hb hts hown hKK hT rfl rfl (hts _ q2498) dX8_addVersion_123 ?_
          refine lv_iload hx hb dX8_addVersion_126 (lv_at hl 5 rfl) ?_
          refine mm_rpu (va_runS (As := [.int (nI (s_nv S))]) (rest := [.ref (ad 0)]) ⟨hx, hb, hml, hown, hts⟩ (t_e l ) (va_cwS 1 hts (lw_S q2491 q2492 q164 q2493) rfl rfl rfl (by decide +kernel) ⟨Nat.le_of_ble_eq_true rfl, Nat.le_of_ble_eq_true rfl⟩) (mm_pS hKK) rfl rfl hl.1 rfl (lv_room (Nat.le_of_ble_eq_true rfl)) dX8_addVersion_128 ⟨Nat.le_of_ble_eq_true rfl, Nat.le_of_ble_eq_true rfl⟩) hS (mm_s0 hS) (fun L_128 hS => ?_)
          refine lv_iload hx hb dX8_addVersion_131 (lv_at hl 1 rfl) ?_
          refine mm_iadd hx hb dX8_addVersion_133 ?_
          refine lv_iload hx hb dX8_addVersion_134 (lv_at hl 0 rfl) ?_
          refine mm_if_eq (tgt := 149) (by omega) hx hb dX8_addVersion_136 (by decide) (fun c_136 => ?_) (fun c_136 => ?_)
          · refine lv_iconst (v := nI 0) hx hb dX8_addVersion_149 (by decide) ?_
            refine tw_st 0 (k := (250 + 64 * (s_nv S) + i)) hx hb hKK hT hS hMa rfl rfl (by show _ < 4210; omega) dX8_addVersion_150 (fun H_150 L_150 hT hz_150 hq_150 hS => ?_)
            refine lv_iinc (v := nI (i + 1)) (lv' := [(7, .int (nI (i + 1))), (8, .int (nI 0)), (0, .ref x), (1, .int (oI par)), (2, .int (nI len)), (5, .int (nI (s_nv S)))]) hx hb dX8_addVersion_151 hl (k := 1) rfl (nI_add _ _) (by decide) rfl (fun ls hl => ?_)
            refine lv_goto (tgt := 89) hx hb dX8_addVersion_154 (by decide) ?_
            exact ih_89 (i + 1) H_150 ((tw_u F1 0 (250 + 64 * (s_nv S) + i) (nI 0))) _ _ (by omega) (by omega) (lv_sub hl [0, 2, 3, 4, 5] rfl) hT (he.tr (eqx.u (by decide))) (fun j hj1 hj2 => by rw [tw_us, pk_un (by omega)]; exact h0 j hj1 hj2) (by rw [tw_us, pk_un (by omega)]; exact a0) (by rw [tw_us, pk_un (by omega)]; exact a1) (by rw [tw_us, pk_un (by omega)]; exact a2) (by rw [tw_us, pk_un (by omega)]; exact a3) (by rw [tw_us, pk_un (by omega)]; exact a4) (by rw [tw_us, pk_un (by omega)]; exact a5) (fun j hj => by rw [tw_us]; by_cases z : j = i; rw [z]; exact pk_us.trans (pE_n c_98).symm; rw [pk_un (by omega)]; exact hel j (by omega)) hS
          · exact absurd c_136 (by decide)
        · have hpr9 := hpr _ c_98
          have hlp := hW.len hpr9
          refine lv_iload hx hb dX8_addVersion_101 (lv_at hl 0 rfl) ?_
          refine lv_iload_n hx hb dX8_addVersion_103 rfl (lv_at hl 3 rfl) ?_
          refine lv_aload_n hx hb dX8_addVersion_104 rfl (lv_at hl 1 rfl) ?_
          refine lv_iload_n hx hb dX8_addVersion_105 rfl (lv_at hl 2 rfl) ?_
          refine mm_top (y := nI r_98) (oI_some c_98) ?_
          refine mm_rpu (va_runV (As := [.int (nI r_98)]) (rest := [.int (nI len), .int (nI i)]) ⟨hx, hb, hml, hown, hts⟩ (t_lengthOf l hT hR hW (by first | assumption | omega)) (cwV 1 hts (lw_V q2487 q2489 qs60 q164 q2490) rfl rfl rfl (by decide +kernel) ⟨Nat.le_of_ble_eq_true rfl, Nat.le_of_ble_eq_true rfl⟩) (mm_pV hKK (mm_rc hKK hT.2.1 mm_le.rf rfl)) rfl rfl hl.1 rfl (lv_room (Nat.le_of_ble_eq_true rfl)) dX8_addVersion_106 ⟨Nat.le_of_ble_eq_true rfl, Nat.le_of_ble_eq_true rfl⟩) hS (mm_s0 hS) (fun L_106 hS => ?_)
          refine va_mmin (x := nI len) (y := nI (s_len S r_98)) (rest := [.int (nI i)]) hx hb (hml.trans hl.1.symm) hown (hts _ q2459) (hts _ q322) (hts _ q143) (hts _ q323) (Nat.le_of_ble_eq_true rfl) (Nat.le_of_ble_eq_true rfl) (Nat.le_of_ble_eq_true rfl) (Nat.le_of_ble_eq_true rfl) dX8_addVersion_109 ?_
          refine mm_top (mm_minN (by omega) (by omega)) ?_
          refine mm_icmp_ge (tgt := 119) (by omega) (by omega) hx hb dX8_addVersion_112 (by decide) (fun c_112 => ?_) (fun c_112 => ?_)
          · refine lv_iconst (v := nI 0) hx hb dX8_addVersion_119 (by decide) ?_
            refine lv_istore (lv' := [(8, .int (nI 0)), (7, .int (nI i)), (0, .ref x), (1, .int (oI par)), (2, .int (nI len)), (5, .int (nI (s_nv S)))]) hx hb dX8_addVersion_120 hl (by decide) rfl (fun ls hl => ?_)
            refine lv_aload_n hx hb dX8_addVersion_122 rfl (lv_at hl 2 rfl) ?_
            refine tw_geta 0 hx hb hts hown hKK hT rfl rfl (hts _ q2498) dX8_addVersion_123 ?_
            refine lv_iload hx hb dX8_addVersion_126 (lv_at hl 5 rfl) ?_
            refine mm_rpu (va_runS (As := [.int (nI (s_nv S))]) (rest := [.ref (ad 0)]) ⟨hx, hb, hml, hown, hts⟩ (t_e l ) (va_cwS 1 hts (lw_S q2491 q2492 q164 q2493) rfl rfl rfl (by decide +kernel) ⟨Nat.le_of_ble_eq_true rfl, Nat.le_of_ble_eq_true rfl⟩) (mm_pS hKK) rfl rfl hl.1 rfl (lv_room (Nat.le_of_ble_eq_true rfl)) dX8_addVersion_128 ⟨Nat.le_of_ble_eq_true rfl, Nat.le_of_ble_eq_true rfl⟩) hS (mm_s0 hS) (fun L_128 hS => ?_)
            refine lv_iload hx hb dX8_addVersion_131 (lv_at hl 1 rfl) ?_
            refine mm_iadd hx hb dX8_addVersion_133 ?_
            refine lv_iload hx hb dX8_addVersion_134 (lv_at hl 0 rfl) ?_
            refine mm_if_eq (tgt := 149) (by omega) hx hb dX8_addVersion_136 (by decide) (fun c_136 => ?_) (fun c_136 => ?_)
            · refine lv_iconst (v := nI 0) hx hb dX8_addVersion_149 (by decide) ?_
              refine tw_st 0 (k := (250 + 64 * (s_nv S) + i)) hx hb hKK hT hS hMa rfl rfl (by show _ < 4210; omega) dX8_addVersion_150 (fun H_150 L_150 hT hz_150 hq_150 hS => ?_)
              refine lv_iinc (v := nI (i + 1)) (lv' := [(7, .int (nI (i + 1))), (8, .int (nI 0)), (0, .ref x), (1, .int (oI par)), (2, .int (nI len)), (5, .int (nI (s_nv S)))]) hx hb dX8_addVersion_151 hl (k := 1) rfl (nI_add _ _) (by decide) rfl (fun ls hl => ?_)
              refine lv_goto (tgt := 89) hx hb dX8_addVersion_154 (by decide) ?_
              exact ih_89 (i + 1) H_150 ((tw_u F1 0 (250 + 64 * (s_nv S) + i) (nI 0))) _ _ (by omega) (by omega) (lv_sub hl [0, 2, 3, 4, 5] rfl) hT (he.tr (eqx.u (by decide))) (fun j hj1 hj2 => by rw [tw_us, pk_un (by omega)]; exact h0 j hj1 hj2) (by rw [tw_us, pk_un (by omega)]; exact a0) (by rw [tw_us, pk_un (by omega)]; exact a1) (by rw [tw_us, pk_un (by omega)]; exact a2) (by rw [tw_us, pk_un (by omega)]; exact a3) (by rw [tw_us, pk_un (by omega)]; exact a4) (by rw [tw_us, pk_un (by omega)]; exact a5) (fun j hj => by rw [tw_us]; by_cases z : j = i; rw [z]; exact pk_us.trans (pE_f c_98 c_112).symm; rw [pk_un (by omega)]; exact hel j (by omega)) hS
            · exact absurd c_136 (by decide)
          · refine lv_iconst (v := nI 1) hx hb dX8_addVersion_115 (by decide) ?_
            refine lv_goto (tgt := 120) hx hb dX8_addVersion_116 (by decide) ?_
            refine lv_istore (lv' := [(8, .int (nI 1)), (7, .int (nI i)), (0, .ref x), (1, .int (oI par)), (2, .int (nI len)), (5, .int (nI (s_nv S)))]) hx hb dX8_addVersion_120 hl (by decide) rfl (fun ls hl => ?_)
            refine lv_aload_n hx hb dX8_addVersion_122 rfl (lv_at hl 2 rfl) ?_
            refine tw_geta 0 hx hb hts hown hKK hT rfl rfl (hts _ q2498) dX8_addVersion_123 ?_
            refine lv_iload hx hb dX8_addVersion_126 (lv_at hl 5 rfl) ?_
            refine mm_rpu (va_runS (As := [.int (nI (s_nv S))]) (rest := [.ref (ad 0)]) ⟨hx, hb, hml, hown, hts⟩ (t_e l ) (va_cwS 1 hts (lw_S q2491 q2492 q164 q2493) rfl rfl rfl (by decide +kernel) ⟨Nat.le_of_ble_eq_true rfl, Nat.le_of_ble_eq_true rfl⟩) (mm_pS hKK) rfl rfl hl.1 rfl (lv_room (Nat.le_of_ble_eq_true rfl)) dX8_addVersion_128 ⟨Nat.le_of_ble_eq_true rfl, Nat.le_of_ble_eq_true rfl⟩) hS (mm_s0 hS) (fun L_128 hS => ?_)
            refine lv_iload hx hb dX8_addVersion_131 (lv_at hl 1 rfl) ?_
            refine mm_iadd hx hb dX8_addVersion_133 ?_
            refine lv_iload hx hb dX8_addVersion_134 (lv_at hl 0 rfl) ?_
            refine mm_if_eq (tgt := 149) (by omega) hx hb dX8_addVersion_136 (by decide) (fun c_136 => ?_) (fun c_136 => ?_)
            · exact absurd c_136 (by decide)
            · refine lv_aload_n hx hb dX8_addVersion_139 rfl (lv_at hl 2 rfl) ?_
              refine lv_iload_n hx hb dX8_addVersion_140 rfl (lv_at hl 3 rfl) ?_
              refine mm_top (y := nI r_98) (oI_some c_98) ?_
              refine lv_iload hx hb dX8_addVersion_141 (lv_at hl 1 rfl) ?_
              refine mm_rpu (va_runV (As := [.int (nI r_98), .int (nI i)]) (rest := [.int (nI (250 + 64 * (s_nv S) + i)), .ref (ad 0)]) ⟨hx, hb, hml, hown, hts⟩ (t_element l hT hR hW (by first | assumption | omega) (by first | assumption | omega)) (cwV 2 hts (lw_V q2494 q2496 qs61 q164 q2497) rfl rfl rfl (by decide +kernel) ⟨Nat.le_of_ble_eq_true rfl, Nat.le_of_ble_eq_true rfl⟩) (mm_pV hKK (mm_rc hKK hT.2.1 mm_le.rf rfl)) rfl rfl hl.1 rfl (lv_room (Nat.le_of_ble_eq_true rfl)) dX8_addVersion_143 ⟨Nat.le_of_ble_eq_true rfl, Nat.le_of_ble_eq_true rfl⟩) hS (mm_s0 hS) (fun L_143 hS => ?_)
              refine lv_goto (tgt := 150) hx hb dX8_addVersion_146 (by decide) ?_
              refine tw_st 0 (k := (250 + 64 * (s_nv S) + i)) hx hb hKK hT hS hMa rfl rfl (by show _ < 4210; omega) dX8_addVersion_150 (fun H_150 L_150 hT hz_150 hq_150 hS => ?_)
              refine lv_iinc (v := nI (i + 1)) (lv' := [(7, .int (nI (i + 1))), (8, .int (nI 1)), (0, .ref x), (1, .int (oI par)), (2, .int (nI len)), (5, .int (nI (s_nv S)))]) hx hb dX8_addVersion_151 hl (k := 1) rfl (nI_add _ _) (by decide) rfl (fun ls hl => ?_)
              refine lv_goto (tgt := 89) hx hb dX8_addVersion_154 (by decide) ?_
              exact ih_89 (i + 1) H_150 ((tw_u F1 0 (250 + 64 * (s_nv S) + i) (s_els S r_98 i))) _ _ (by omega) (by omega) (lv_sub hl [0, 2, 3, 4, 5] rfl) hT (he.tr (eqx.u (by decide))) (fun j hj1 hj2 => by rw [tw_us, pk_un (by omega)]; exact h0 j hj1 hj2) (by rw [tw_us, pk_un (by omega)]; exact a0) (by rw [tw_us, pk_un (by omega)]; exact a1) (by rw [tw_us, pk_un (by omega)]; exact a2) (by rw [tw_us, pk_un (by omega)]; exact a3) (by rw [tw_us, pk_un (by omega)]; exact a4) (by rw [tw_us, pk_un (by omega)]; exact a5) (fun j hj => by rw [tw_us]; by_cases z : j = i; rw [z]; exact pk_us.trans (pE_t c_98 c_112).symm; rw [pk_un (by omega)]; exact hel j (by omega)) hS
  exact lp_89 _ 0 H_85 ((tw_u (tw_u (tw_u (tw_u (tw_u (tw_u F 0 (10 + 6 * (s_nv S)) (nI len)) 0 (10 + 6 * (s_nv S) + 1) (oI root)) 0 (10 + 6 * (s_nv S) + 2) (nI (hf len))) 0 (10 + 6 * (s_nv S) + 3) (oI par)) 0 (10 + 6 * (s_nv S) + 4) (nI 0)) 0 (10 + 6 * (s_nv S) + 5) (nI ((s_nn S) - bf)))) _ _ (Nat.lt_succ_self _) (by omega) (lv_sub hl [0, 3, 4, 5, 2] rfl) hT ((eqx.u (by decide)).tr ((eqx.u (by decide)).tr ((eqx.u (by decide)).tr ((eqx.u (by decide)).tr ((eqx.u (by decide)).tr ((eqx.u (by decide)))))))) (fun j hj1 hj2 => (by rw [tw_us, pk_un (by omega)]; rw [tw_us, pk_un (by omega)]; rw [tw_us, pk_un (by omega)]; rw [tw_us, pk_un (by omega)]; rw [tw_us, pk_un (by omega)]; rw [tw_us, pk_un (by omega)])) (by rw [tw_us, pk_un (by omega)]; rw [tw_us, pk_un (by omega)]; rw [tw_us, pk_un (by omega)]; rw [tw_us, pk_un (by omega)]; rw [tw_us, pk_un (by omega)]; rw [tw_us]; exact pk_us) (by rw [tw_us, pk_un (by omega)]; rw [tw_us, pk_un (by omega)]; rw [tw_us, pk_un (by omega)]; rw [tw_us, pk_un (by omega)]; rw [tw_us]; exact pk_us) (by rw [tw_us, pk_un (by omega)]; rw [tw_us, pk_un (by omega)]; rw [tw_us, pk_un (by omega)]; rw [tw_us]; exact pk_us) (by rw [tw_us, pk_un (by omega)]; rw [tw_us, pk_un (by omega)]; rw [tw_us]; exact pk_us) (by rw [tw_us, pk_un (by omega)]; rw [tw_us]; exact pk_us) (by rw [tw_us]; exact pk_us) (fun j hj => absurd hj (Nat.not_lt_zero _)) hS
