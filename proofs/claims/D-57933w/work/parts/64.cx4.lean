/-! the component: reachable nodes (printed by tools/cx4.py) -/
set_option maxRecDepth 100000 in
theorem x_reach (l : Launch) {G : mm_G} {P : mm_H} {H : Heap} {V Q : mm_H} {S : sp_S} {a : Nat} {nd vs tr og num : Nat → Nat} (h : Nat) {k arr : Nat} {mk : Nat → Bool} (hSF : SF G V Q a S nd vs tr og num) (hWF : mm_le V (mm_h H)) (hQF : mm_le Q (mm_h H)) (hW : WF S) (hC : STC S) (hVa : V arr = none) (hQa : Q arr = none) (hAr : mm_ia G (mm_h H) arr 2 (s_nn S) (fun j => mm_b (mk j))) (hg : Hgt S h k) (hs9 : s_sto S k = true) (hcl : CLm S (k + 1) mk) : Mt l yX2_reach (ws_ yX2_reach cX2_reach 4 none) ((h + 6)) ((h * 60 + 200)) 0 0 G P [.ref a, .ref (nd k), .ref arr] H (fun q => q = arr) (mm_v (fun H1 => mm_ia G (mm_h H1) arr 2 (s_nn S) (fun j => mm_b (mkU S h k mk j)))) := by
  induction h generalizing k mk H with
  | zero => exact hg.elim
  | succ h ihr =>
    refine Mt.of (by decide) (Nat.le_of_ble_eq_true rfl) (fun p e s m below meth c ls hx hb hr hlk hml hown hnm hts hKK hsH hl hS => ?_)
    have hl : lv_has ls 4 [(0, .ref a), (1, .ref (nd k)), (2, .ref arr)] := hl
    obtain ⟨⟨vl, va, vcap, nl, na, ncap, vmc, nmc, hOS, hVL, hNLs⟩, hV, hD, hJ, hnum⟩ := id hSF
    have hnv := hW.nv
    have hnn := hW.nn
    have hcs := cB_le (s_nn S) (s_sto S)
    have hk9 := hg.1
    have hc9 := hW.cnt hk9
    have hNk := hD k hk9 hs9
    refine lv_aload_n hx hb dX2_reach_0 rfl (lv_at hl 1 rfl) ?_
    refine lv_ifnull hx hb dX2_reach_1 ?_
    refine lv_aload_n hx hb dX2_reach_4 rfl (lv_at hl 2 rfl) ?_
    refine lv_aload_n hx hb dX2_reach_5 rfl (lv_at hl 1 rfl) ?_
    refine mm_num hx hb hts hown hKK hNk hQF q724 dX2_reach_6 ?_
    refine mm_zald (k := k) hx hb hKK hAr mm_le.rf (by omega) (by omega) dX2_reach_9 ?_
    refine mm_ifeqB (tgt := 14) hx hb dX2_reach_10 (by decide) (fun c_10 => ?_) (fun c_10 => ?_)
    · refine lv_aload_n hx hb dX2_reach_14 rfl (lv_at hl 2 rfl) ?_
      refine lv_aload_n hx hb dX2_reach_15 rfl (lv_at hl 1 rfl) ?_
      refine mm_num hx hb hts hown hKK hNk hQF q724 dX2_reach_16 ?_
      refine lv_iconst (v := nI 1) hx hb dX2_reach_19 (by decide) ?_
      refine mm_zast (k := k) hx hb hKK hAr hS (Or.inl rfl) (by omega) (by omega) dX2_reach_20 (fun H_20 L_20 hAr hz_20 hq_20 hS => ?_)
      have hAr : mm_ia G (mm_h H_20) arr 2 (s_nn S) (fun j => mm_b (mkL S h k mk 0 j)) := by rw [upd_mb] at hAr; rw [mkL_0]; exact hAr
      have hWF := hWF.put hq_20 hVa
      have hQF := hQF.put hq_20 hQa
      refine lv_iconst (v := nI 0) hx hb dX2_reach_21 (by decide) ?_
      refine lv_istore_n (lv' := [(3, .int (nI 0)), (0, .ref a), (1, .ref (nd k)), (2, .ref arr)]) hx hb dX2_reach_22 rfl hl (by decide) rfl (fun ls hl => ?_)
      have lp_23 : ∀ (fu : Nat) (i : Nat) (H1 : Heap) (L : List Loc) (ls : Array Slot), s_cnt S k - i < fu → (i ≤ s_cnt S k) → (s_leaf S k = true → i = 0) → lv_has ls 4 [(3, .int (nI i)), (0, .ref a), (1, .ref (nd k)), (2, .ref arr)] → (mm_ia G (mm_h H1) arr 2 (s_nn S) (fun j => mm_b (mkL S h k mk i j))) → (mm_le V (mm_h H1)) → (mm_le Q (mm_h H1)) → va_S (mm_A (fun q => q = arr) H) H H1 L → W p l e (mm_rm (((h + 1) + 6)) (((h + 1) * 60 + 200)) 0 0) s m ([.ref a, .ref (nd k), .ref arr] : List Value).toArray below meth c H1 L 0 0 (MQ below (mm_Qc H (fun q => q = arr) (mm_v (fun H1 => mm_ia G (mm_h H1) arr 2 (s_nn S) (fun j => mm_b (mkU S (h + 1) k mk j))))) ([.ref a, .ref (nd k), .ref arr] : List Value).toArray s 0 0 (mm_A (fun q => q = arr) H)) (F0 m 23 ls []) := by
        intro fu; induction fu with
        | zero => intro i H1 L ls hfu; exact absurd hfu (Nat.not_lt_zero _)
        | succ fu ih =>
          intro i H1 L ls hfu hi hz9 hl hAr hWF hQF hS
          have ih_23 := ih
          refine lv_iload_n hx hb dX2_reach_23 rfl (lv_at hl 0 rfl) ?_
          refine lv_aload_n hx hb dX2_reach_24 rfl (lv_at hl 2 rfl) ?_
          refine mm_rpu (M := mm_0) (mc := 0) (ms := 0) (a := ([.ref (nd k)] : List Value).toArray) (v := .int (nI (s_cnt S k))) (rest := [.int (nI i)]) ?_ hS (mm_s0 hS) (fun L_25 hS => ?_)
          · rcases hNk with ⟨hlf9, lst9, hNd⟩ | ⟨hlf9, lst9, hNd⟩
            · exact va_runU (As := []) (rest := [.int (nI i)]) ⟨hx, hb, hml, hown, hts⟩ (x_cntL l hNd hQF) (va_cwA (owner := "VectorVersions$Node") 0 hts (lw_UU q1408 q1410 q1414 q1415 q159 (lw_meth q1416)) rfl rfl rfl (hKK.W.use q1409 rfl) (by decide +kernel) ⟨by simp only [mm_rm]; omega, by simp only [mm_rm]; omega⟩) (mm_pV hKK (mm_rc hKK hNd.1 hQF rfl)) rfl rfl hl.1 rfl (lv_room (Nat.le_of_ble_eq_true rfl)) dX2_reach_25 ⟨Nat.le_of_ble_eq_true rfl, Nat.le_of_ble_eq_true rfl⟩
            · exact va_runU (As := []) (rest := [.int (nI i)]) ⟨hx, hb, hml, hown, hts⟩ (x_cntI l hNd hQF) (va_cwA (owner := "VectorVersions$Node") 0 hts (lw_UU q1408 q1410 q1411 q1412 q160 (lw_meth q1413)) rfl rfl rfl (hKK.W.use q1409 rfl) (by decide +kernel) ⟨by simp only [mm_rm]; omega, by simp only [mm_rm]; omega⟩) (mm_pV hKK (mm_rc hKK hNd.1 hQF rfl)) rfl rfl hl.1 rfl (lv_room (Nat.le_of_ble_eq_true rfl)) dX2_reach_25 ⟨Nat.le_of_ble_eq_true rfl, Nat.le_of_ble_eq_true rfl⟩
          refine mm_icmp_ge (tgt := 54) (by omega) (by omega) hx hb dX2_reach_28 (by decide) (fun c_28 => ?_) (fun c_28 => ?_)
          · exact mm_vret hx hb hr hlk hS (Nat.le_of_ble_eq_true rfl) (Nat.le_of_ble_eq_true rfl) (⟨rfl, by cases y : s_leaf S k with | true => rw [← mkL_Ul y, ← hz9 y]; exact hAr | false => rw [← mkL_U y, show s_cnt S k = i by omega]; exact hAr⟩) dX2_reach_54
          · refine lv_aload_n hx hb dX2_reach_31 rfl (lv_at hl 2 rfl) ?_
            refine mm_rpu (M := mm_0) (mc := 0) (ms := 0) (a := ([.ref (nd k)] : List Value).toArray) (v := .int (mm_b (s_leaf S k))) (rest := []) ?_ hS (mm_s0 hS) (fun L_32 hS => ?_)
            · rcases hNk with ⟨hlf9, lst9, hNd⟩ | ⟨hlf9, lst9, hNd⟩
              · rw [hlf9]; exact va_runU (As := []) (rest := []) ⟨hx, hb, hml, hown, hts⟩ (x_lfL l hNd hQF) (va_cwA (owner := "VectorVersions$Node") 0 hts (lw_UU q1531 q1533 q1537 q1538 q159 (lw_meth q1539)) rfl rfl rfl (hKK.W.use q1532 rfl) (by decide +kernel) ⟨by simp only [mm_rm]; omega, by simp only [mm_rm]; omega⟩) (mm_pV hKK (mm_rc hKK hNd.1 hQF rfl)) rfl rfl hl.1 rfl (lv_room (Nat.le_of_ble_eq_true rfl)) dX2_reach_32 ⟨Nat.le_of_ble_eq_true rfl, Nat.le_of_ble_eq_true rfl⟩
              · rw [hlf9]; exact va_runU (As := []) (rest := []) ⟨hx, hb, hml, hown, hts⟩ (x_lfI l hNd hQF) (va_cwA (owner := "VectorVersions$Node") 0 hts (lw_UU q1531 q1533 q1534 q1535 q160 (lw_meth q1536)) rfl rfl rfl (hKK.W.use q1532 rfl) (by decide +kernel) ⟨by simp only [mm_rm]; omega, by simp only [mm_rm]; omega⟩) (mm_pV hKK (mm_rc hKK hNd.1 hQF rfl)) rfl rfl hl.1 rfl (lv_room (Nat.le_of_ble_eq_true rfl)) dX2_reach_32 ⟨Nat.le_of_ble_eq_true rfl, Nat.le_of_ble_eq_true rfl⟩
            refine mm_ifneB (tgt := 54) hx hb dX2_reach_35 (by decide) (fun c_35 => ?_) (fun c_35 => ?_)
            · exact mm_vret hx hb hr hlk hS (Nat.le_of_ble_eq_true rfl) (Nat.le_of_ble_eq_true rfl) (⟨rfl, by rw [← mkL_Ul c_35, ← hz9 c_35]; exact hAr⟩) dX2_reach_54
            · refine lv_aload_n hx hb dX2_reach_38 rfl (lv_at hl 1 rfl) ?_
              refine lv_aload_n hx hb dX2_reach_39 rfl (lv_at hl 2 rfl) ?_
              refine lv_iload_n hx hb dX2_reach_40 rfl (lv_at hl 0 rfl) ?_
              refine mm_rpu (M := mm_0) (mc := 0) (ms := 0) (a := ([.ref (nd k), .int (nI i)] : List Value).toArray) (v := va_rf (kidR nd S k i)) (rest := [.ref a]) ?_ hS (mm_s0 hS) (fun L_41 hS => ?_)
              · rcases hNk with ⟨hlf9, lst9, hNd⟩ | ⟨hlf9, lst9, hNd⟩
                · rw [kidR_L hlf9]; exact va_runU (As := [.int (nI i)]) (rest := [.ref a]) ⟨hx, hb, hml, hown, hts⟩ (x_chL l ) (va_cwU (owner := "VectorVersions$Node") 1 hts (lw_UU q1475 q1477 q1482 q1476 q158 (lw_meth q1483)) rfl rfl rfl rfl (by decide +kernel) ⟨by simp only [mm_rm]; omega, by simp only [mm_rm]; omega⟩) (mm_pV hKK (mm_rc hKK hNd.1 hQF rfl)) rfl rfl hl.1 rfl (lv_room (Nat.le_of_ble_eq_true rfl)) dX2_reach_41 ⟨Nat.le_of_ble_eq_true rfl, Nat.le_of_ble_eq_true rfl⟩
                · rw [kidR_I hlf9 (by omega)]; exact va_runU (As := [.int (nI i)]) (rest := [.ref a]) ⟨hx, hb, hml, hown, hts⟩ (x_chI l hNd hQF (hW.cnt hk9) (fun j hj => (hC.kid hW hD hk9 hs9 hlf9 hj).2.2)) (va_cwO (owner := "VectorVersions$Node") 1 hts (lw_OO q1475 q1477 q1476 q1478 q1479 q160 (lw_meth q1480)) rfl rfl rfl q1483 (by decide +kernel) ⟨by simp only [mm_rm]; omega, by simp only [mm_rm]; omega⟩) (mm_pV hKK (mm_rc hKK hNd.1 hQF rfl)) rfl rfl hl.1 rfl (lv_room (Nat.le_of_ble_eq_true rfl)) dX2_reach_41 ⟨Nat.le_of_ble_eq_true rfl, Nat.le_of_ble_eq_true rfl⟩
              refine mm_topv (y := .ref (nd (s_chd S k i))) (by rw [show kidR nd S k i = some (nd (s_chd S k i)) from if_pos ⟨c_35, by omega⟩]; rfl) ?_
              refine lv_aload_n hx hb dX2_reach_44 rfl (lv_at hl 3 rfl) ?_
              have hkd := hC.kid hW hD hk9 hs9 c_35 (show i < s_cnt S k by omega)
              refine mm_rv (va_runV (As := [.ref (nd (s_chd S k i)), .ref arr]) (rest := []) ⟨hx, hb, hml, hown, hts⟩ (ihr hWF hQF hAr (hg.chd c_35 (show i < s_cnt S k by omega)) hkd.2.1 (fun k2 h2 => mkL_CL hW hg c_35 hcl (by omega) k2 (by have := (hW.ent hk9 c_35 (show i < s_cnt S k by omega)).2; omega))) (cwV 2 hts (lw_V q1527 q1529 qs44 q146 q1530) rfl rfl rfl (by decide +kernel) ⟨by simp only [mm_rm]; omega, by simp only [mm_rm]; omega⟩) (mm_pV hKK (mm_rc hKK hOS hWF rfl)) rfl rfl hl.1 rfl (lv_room (Nat.le_of_ble_eq_true rfl)) dX2_reach_45 ⟨Nat.le_of_ble_eq_true rfl, Nat.le_of_ble_eq_true rfl⟩) hS (mm_sS hS) (fun H_45 L_45 hAr hz_45 hq_45 hS => ?_)
              rw [mkL_s] at hAr
              have hWF := hWF.keep hq_45 (fun q z => by rw [z]; exact hVa)
              have hQF := hQF.keep hq_45 (fun q z => by rw [z]; exact hQa)
              refine lv_iinc (v := nI (i + 1)) (lv' := [(3, .int (nI (i + 1))), (0, .ref a), (1, .ref (nd k)), (2, .ref arr)]) hx hb dX2_reach_48 hl (k := 0) rfl (nI_add _ _) (by decide) rfl (fun ls hl => ?_)
              refine lv_goto (tgt := 23) hx hb dX2_reach_51 (by decide) ?_
              exact ih_23 (i + 1) H_45 _ _ (by omega) (by omega) (fun z => by rw [c_35] at z; cases z) (lv_sub hl [0, 1, 2, 3] rfl) hAr hWF hQF hS
      exact lp_23 _ 0 H_20 _ _ (Nat.lt_succ_self _) (by omega) (fun _ => rfl) (lv_sub hl [0, 1, 2, 3] rfl) hAr hWF hQF hS
    · exact mm_vret hx hb hr hlk hS (Nat.le_of_ble_eq_true rfl) (Nat.le_of_ble_eq_true rfl) (⟨rfl, by rw [mkU_id hW hg hcl c_10]; exact hAr⟩) dX2_reach_13
