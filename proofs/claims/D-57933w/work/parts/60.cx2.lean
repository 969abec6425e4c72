/-! the component: trees, the store read (printed by tools/cx2.py) -/
set_option maxRecDepth 100000 in
theorem x_get (l : Launch) {G : mm_G} {P : mm_H} {H : Heap} {W : mm_H} {nd : Nat → Nat} {S : sp_S} {a v i : Nat} (hD : NDS G W nd S) (hWF : mm_le W (mm_h H)) (hO : mm_ob G W a 3 [va_rf ((s_root S v).map nd), .int (nI (s_len S v)), .int (nI (hf (s_len S v)))]) (hg : RgV S v) (hi9 : i < s_len S v) : Mt l yX6_get (ws_ yX6_get cX6_get 2 (some (.object "java/lang/Comparable"))) 8 400 0 0 G P [.ref a, .int (nI i)] H mm_0 (mm_r (fun b H1 => mm_in G W b (s_els S v i) ∧ H = H1)) := by
  refine Mt.of (by decide) (Nat.le_of_ble_eq_true rfl) (fun p e s m below meth c ls hx hb hr hlk hml hown hnm hts hKK hsH hl hS => ?_)
  have hl : lv_has ls 2 [(0, .ref a), (1, .int (nI i))] := hl
  obtain ⟨r, hrt9, hR9⟩ := RgV_r hg hi9
  have hh3 := hf_le3 (s_len S v)
  have hO : mm_ob G W a 3 [.ref (nd r), .int (nI (s_len S v)), .int (nI (hf (s_len S v)))] := by rw [hrt9] at hO; exact hO
  refine lv_aload_n hx hb dX6_get_0 rfl (lv_at hl 0 rfl) ?_
  refine mm_get (C := RX6) (T := TX6) (N := 3) (ci := 3) (v := .ref (nd r)) hx hb hts in_X6 hown hKK (mm_ob.rb hO) hWF rfl 0 (by decide) (hts _ q785) (fun _ h9 => h9) rfl dX6_get_1 ?_
  refine lv_iload_n hx hb dX6_get_4 rfl (lv_at hl 1 rfl) ?_
  refine lv_aload_n hx hb dX6_get_5 rfl (lv_at hl 0 rfl) ?_
  refine mm_get (C := RX6) (T := TX6) (N := 3) (ci := 3) (v := .int (nI (hf (s_len S v)))) hx hb hts in_X6 hown hKK (mm_ob.rb hO) hWF rfl 2 (by decide) (hts _ q793) (fun _ h9 => h9) rfl dX6_get_6 ?_
  refine mm_top (y := nI (hf (s_len S v) - 1 + 1)) (congrArg nI (hf_pos (by omega))) ?_
  refine mm_rr (M := mm_0) (mc := 0) (ms := 0) (a := ([.ref (nd r), .int (nI i), .int (nI (hf (s_len S v) - 1 + 1))] : List Value).toArray) (B := fun b H1 => mm_in G W b ((s_els S v i)) ∧ H = H1) (rest := []) ?_ hS (mm_s0 hS) (fun b_9 H_9 L_9 hB_9 _ _ hS => ?_)
  · rcases Nat.eq_zero_or_pos (hf (s_len S v) - 1) with hz | hz
    · obtain ⟨lst9, hLc⟩ := (hD r (hR9).1 (hR9).2.1).L ((hR9).2.2.2.1.mpr hz)
      have hic : i < s_cnt S r := by have h3 := (hR9).2.2.1; have hp1 : 4 ^ (hf (s_len S v) - 1) = 1 := (by rw [hz]); rw [hp1, Nat.div_one] at h3; omega
      have hvc : s_ent S r i = (s_els S v i) := by rw [(hR9).2.2.2.2.1 hz _ hi9]; first | done | exact rfl
      exact va_runU (As := [.int (nI i), .int (nI (hf (s_len S v) - 1 + 1))]) (rest := []) ⟨hx, hb, hml, hown, hts⟩ (x_elL l hLc hWF (i := i) (v := (s_els S v i)) hic hvc) (va_cwA (owner := "VectorVersions$Node") 2 hts (lw_UU q1389 q1391 q1399 q1397 q159 (lw_meth q1398)) rfl rfl rfl (hKK.W.use q1390 rfl) (by decide +kernel) ⟨Nat.le_of_ble_eq_true rfl, Nat.le_of_ble_eq_true rfl⟩) (mm_pV hKK (mm_rc hKK hLc.1 hWF rfl)) rfl rfl hl.1 rfl (lv_room (Nat.le_of_ble_eq_true rfl)) dX6_get_9 ⟨Nat.le_of_ble_eq_true rfl, Nat.le_of_ble_eq_true rfl⟩
    · obtain ⟨lst9, hIc⟩ := (hD r (hR9).1 (hR9).2.1).I (lf_false (hR9).hgt (by omega))
      exact va_runU (As := [.int (nI i), .int (nI (hf (s_len S v) - 1 + 1))]) (rest := []) ⟨hx, hb, hml, hown, hts⟩ (x_elI l (hf (s_len S v) - 1) hD hWF ⟨hR9, hz, (by omega)⟩ hi9 rfl) (va_cwA (owner := "VectorVersions$Node") 2 hts (lw_UU q1389 q1391 q1392 q1393 q160 (lw_meth q1394)) rfl rfl rfl (hKK.W.use q1390 rfl) (by decide +kernel) ⟨by simp only [mm_rm]; omega, by simp only [mm_rm]; omega⟩) (mm_pV hKK (mm_rc hKK hIc.1 hWF rfl)) rfl rfl hl.1 rfl (lv_room (Nat.le_of_ble_eq_true rfl)) dX6_get_9 ⟨Nat.le_of_ble_eq_true rfl, Nat.le_of_ble_eq_true rfl⟩
  obtain ⟨hin_9, hE9⟩ := hB_9
  subst hE9
  exact mm_aret (v := .ref b_9) hx hb hr rfl hlk hS (Nat.le_of_ble_eq_true rfl) (Nat.le_of_ble_eq_true rfl) (Or.inr ⟨_, rfl⟩) (⟨_, rfl, hin_9, rfl⟩) dX6_get_12
set_option maxRecDepth 100000 in
theorem x_same (l : Launch) {G : mm_G} {P : mm_H} {H : Heap} {W : mm_H} {nd : Nat → Nat} {S : sp_S} {a b v u : Nat} {i : Nat} (hD : NDS G W nd S) (hWF : mm_le W (mm_h H)) (hO : mm_ob G W a 3 [va_rf ((s_root S v).map nd), .int (nI (s_len S v)), .int (nI (hf (s_len S v)))]) (hg : RgV S v) (hO2 : mm_ob G W b 3 [va_rf ((s_root S u).map nd), .int (nI (s_len S u)), .int (nI (hf (s_len S u)))]) (hg2 : RgV S u) (hi9 : i < s_len S v) (hi8 : i < s_len S u) : Mt l yX6_hasSameAt (ws_ yX6_hasSameAt cX6_hasSameAt 3 (some .boolean)) 9 450 0 0 G P [.ref a, .ref b, .int (nI i)] H mm_0 (mm_pu (.int (mm_b (decide (s_els S v i = s_els S u i)))) H) := by
  refine Mt.of (by decide) (Nat.le_of_ble_eq_true rfl) (fun p e s m below meth c ls hx hb hr hlk hml hown hnm hts hKK hsH hl hS => ?_)
  have hl : lv_has ls 3 [(0, .ref a), (1, .ref b), (2, .int (nI i))] := hl
  refine lv_aload_n hx hb dX6_hasSameAt_0 rfl (lv_at hl 0 rfl) ?_
  refine lv_iload_n hx hb dX6_hasSameAt_1 rfl (lv_at hl 2 rfl) ?_
  refine mm_rr (va_runV (As := [.int (nI i)]) (rest := []) ⟨hx, hb, hml, hown, hts⟩ (x_get l hD hWF hO hg hi9) (cwV 1 hts (lw_V q2263 q1386 q1387 q161 q1388) rfl rfl rfl (by decide +kernel) ⟨Nat.le_of_ble_eq_true rfl, Nat.le_of_ble_eq_true rfl⟩) (mm_pV hKK (mm_rc hKK hO hWF rfl)) rfl rfl hl.1 rfl (lv_room (Nat.le_of_ble_eq_true rfl)) dX6_hasSameAt_2 ⟨Nat.le_of_ble_eq_true rfl, Nat.le_of_ble_eq_true rfl⟩) hS (mm_s0 hS) (fun b_2 H_2 L_2 hB_2 _ _ hS => ?_)
  obtain ⟨hin_2, hE9⟩ := hB_2
  subst hE9
  refine lv_aload_n hx hb dX6_hasSameAt_5 rfl (lv_at hl 1 rfl) ?_
  refine lv_iload_n hx hb dX6_hasSameAt_6 rfl (lv_at hl 2 rfl) ?_
  refine mm_rr (va_runV (As := [.int (nI i)]) (rest := [.ref b_2]) ⟨hx, hb, hml, hown, hts⟩ (x_get l hD hWF hO2 hg2 hi8) (cwV 1 hts (lw_V q2263 q1386 q1387 q161 q1388) rfl rfl rfl (by decide +kernel) ⟨Nat.le_of_ble_eq_true rfl, Nat.le_of_ble_eq_true rfl⟩) (mm_pV hKK (mm_rc hKK hO2 hWF rfl)) rfl rfl hl.1 rfl (lv_room (Nat.le_of_ble_eq_true rfl)) dX6_hasSameAt_7 ⟨Nat.le_of_ble_eq_true rfl, Nat.le_of_ble_eq_true rfl⟩) hS (mm_s0 hS) (fun b_7 H_7 L_7 hB_7 _ _ hS => ?_)
  obtain ⟨hin_7, hE9⟩ := hB_7
  subst hE9
  refine mm_rpu5 (va_runF (As := [.ref b_7]) (rest := []) (hKK.K.1 20 _ rfl).2 ⟨hx, hb, hml, hown, hts⟩ (j_cmpO l (v := s_els S v i) (u := s_els S u i) hin_2 hin_7 hWF) (va_cwF 1 hts (lw_FF q1973 q1977 q1979 q140 (lw_meth q1981)) rfl rfl rfl (hKK.F.use 12 rfl) (by decide +kernel) ⟨Nat.le_of_ble_eq_true rfl, Nat.le_of_ble_eq_true rfl⟩) (mm_pV hKK (mm_rcb hKK hin_2 hWF rfl)) rfl rfl hl.1 rfl (lv_room (Nat.le_of_ble_eq_true rfl)) dX6_hasSameAt_10 ⟨Nat.le_of_ble_eq_true rfl, Nat.le_of_ble_eq_true rfl⟩) hS (mm_s0 hS) (fun L_10 hS => ?_)
  refine lv_if_ne (tgt := 22) hx hb dX6_hasSameAt_15 (by decide) (fun c_15 => ?_) (fun c_15 => ?_)
  · refine lv_iconst (v := nI 0) hx hb dX6_hasSameAt_22 (by decide) ?_
    refine mm_top (y := mm_b false) rfl ?_
    exact mm_zret (v := mm_b false) hx hb hr hlk hS (Nat.le_of_ble_eq_true rfl) (Nat.le_of_ble_eq_true rfl) (mm_nb _) (⟨by first | exact mm_d1 ((cmpI_0 _ _).mp c_15) | exact mm_d0 (fun z => c_15 ((cmpI_0 _ _).mpr z)), rfl⟩) dX6_hasSameAt_23
  · refine lv_iconst (v := nI 1) hx hb dX6_hasSameAt_18 (by decide) ?_
    refine mm_top (y := mm_b true) rfl ?_
    refine lv_goto (tgt := 23) hx hb dX6_hasSameAt_19 (by decide) ?_
    exact mm_zret (v := mm_b true) hx hb hr hlk hS (Nat.le_of_ble_eq_true rfl) (Nat.le_of_ble_eq_true rfl) (mm_nb _) (⟨by first | exact mm_d1 ((cmpI_0 _ _).mp c_15) | exact mm_d0 (fun z => c_15 ((cmpI_0 _ _).mpr z)), rfl⟩) dX6_hasSameAt_23
set_option maxRecDepth 100000 in
theorem x_ver (l : Launch) {G : mm_G} {P : mm_H} {H : Heap} {V Q : mm_H} {S : sp_S} {a : Nat} {nd vs tr og num : Nat → Nat} {v : Nat} (hSF : SF G V Q a S nd vs tr og num) (hWF : mm_le V (mm_h H)) (hQF : mm_le Q (mm_h H)) (hW : WF S) (hv9 : v < s_nv S) : Mt l yX2_version (ws_ yX2_version cX2_version 2 (some (.object "VectorVersions$Version"))) 3 90 0 0 G P [.ref a, .int (nI v)] H mm_0 (mm_pu (.ref (vs v)) H) := by
  refine Mt.of (by decide) (Nat.le_of_ble_eq_true rfl) (fun p e s m below meth c ls hx hb hr hlk hml hown hnm hts hKK hsH hl hS => ?_)
  have hl : lv_has ls 2 [(0, .ref a), (1, .int (nI v))] := hl
  obtain ⟨⟨vl, va, vcap, nl, na, ncap, vmc, nmc, hOS, hVL, hNLs⟩, hV, hD, hJ, hnum⟩ := id hSF
  have hnv := hW.nv
  have hnn := hW.nn
  have hcs := cB_le (s_nn S) (s_sto S)
  refine lv_aload_n hx hb dX2_version_0 rfl (lv_at hl 0 rfl) ?_
  refine mm_get (C := RX2) (T := TX2) (N := 3) (ci := 1) (v := .ref vl) hx hb hts in_X2 hown hKK (mm_ob.rb hOS) hWF rfl 0 (by decide) (hts _ q646) (fun _ h9 => h9) rfl dX2_version_1 ?_
  refine lv_iload_n hx hb dX2_version_4 rfl (lv_at hl 1 rfl) ?_
  obtain ⟨hv_1, ⟨rt_1, ht_1, hrt_1⟩, hog_1⟩ := hV v (by omega)
  refine mm_rpu5 (va_runF (As := [.int (nI v)]) (rest := []) (hKK.K.1 15 _ rfl).2 ⟨hx, hb, hml, hown, hts⟩ (a_get l hVL hWF (by omega)) (va_cwF 1 hts (lw_FF q673 q676 q678 q138 (lw_meth q680)) rfl rfl rfl (hKK.F.use 2 rfl) (by decide +kernel) ⟨Nat.le_of_ble_eq_true rfl, Nat.le_of_ble_eq_true rfl⟩) (mm_pV hKK (mm_rc hKK hVL.1 hWF rfl)) rfl rfl hl.1 rfl (lv_room (Nat.le_of_ble_eq_true rfl)) dX2_version_5 ⟨Nat.le_of_ble_eq_true rfl, Nat.le_of_ble_eq_true rfl⟩) hS (mm_s0 hS) (fun L_5 hS => ?_)
  refine va_castS hx hb hown (hts _ q807) (hKK.K.1 2 _ rfl).2 (mm_rc hKK hv_1 hWF rfl) dX2_version_10 ?_
  exact mm_aret (v := .ref (vs v)) hx hb hr rfl hlk hS (Nat.le_of_ble_eq_true rfl) (Nat.le_of_ble_eq_true rfl) (Or.inr ⟨_, rfl⟩) (⟨rfl, rfl⟩) dX2_version_13
set_option maxRecDepth 100000 in
theorem x_tree (l : Launch) {G : mm_G} {P : mm_H} {H : Heap} {V Q : mm_H} {S : sp_S} {a : Nat} {nd vs tr og num : Nat → Nat} {v : Nat} (hSF : SF G V Q a S nd vs tr og num) (hWF : mm_le V (mm_h H)) (hQF : mm_le Q (mm_h H)) (hW : WF S) (hv9 : v < s_nv S) : Mt l yX2_tree (ws_ yX2_tree cX2_tree 2 (some (.object "VectorVersions$Tree"))) 4 120 0 0 G P [.ref a, .int (nI v)] H mm_0 (mm_pu (.ref (tr v)) H) := by
  refine Mt.of (by decide) (Nat.le_of_ble_eq_true rfl) (fun p e s m below meth c ls hx hb hr hlk hml hown hnm hts hKK hsH hl hS => ?_)
  have hl : lv_has ls 2 [(0, .ref a), (1, .int (nI v))] := hl
  obtain ⟨⟨vl, va, vcap, nl, na, ncap, vmc, nmc, hOS, hVL, hNLs⟩, hV, hD, hJ, hnum⟩ := id hSF
  have hnv := hW.nv
  have hnn := hW.nn
  have hcs := cB_le (s_nn S) (s_sto S)
  refine lv_aload_n hx hb dX2_tree_0 rfl (lv_at hl 0 rfl) ?_
  refine lv_iload_n hx hb dX2_tree_1 rfl (lv_at hl 1 rfl) ?_
  obtain ⟨hv_2, ⟨rt_2, ht_2, hrt_2⟩, hog_2⟩ := hV v (by omega)
  refine mm_rpu (va_runV (As := [.int (nI v)]) (rest := []) ⟨hx, hb, hml, hown, hts⟩ (x_ver l hSF hWF hQF hW (by omega)) (cwV 1 hts (lw_V q1086 q1087 q1088 q146 q1089) rfl rfl rfl (by decide +kernel) ⟨Nat.le_of_ble_eq_true rfl, Nat.le_of_ble_eq_true rfl⟩) (mm_pV hKK (mm_rc hKK hOS hWF rfl)) rfl rfl hl.1 rfl (lv_room (Nat.le_of_ble_eq_true rfl)) dX2_tree_2 ⟨Nat.le_of_ble_eq_true rfl, Nat.le_of_ble_eq_true rfl⟩) hS (mm_s0 hS) (fun L_2 hS => ?_)
  refine mm_getN (C := RX7) (T := TX7) (N := 6) (ci := 2) (v := .ref (tr v)) hx hb hts in_X7 hown hKK (mm_ob.rb hv_2) hWF rfl 3 (by decide) q822 (fun _ h9 => h9) rfl dX2_tree_5 ?_
  exact mm_aret (v := .ref (tr v)) hx hb hr rfl hlk hS (Nat.le_of_ble_eq_true rfl) (Nat.le_of_ble_eq_true rfl) (Or.inr ⟨_, rfl⟩) (⟨rfl, rfl⟩) dX2_tree_8
