/-! the component: more of the store (printed by tools/cx6.py) -/
set_option maxRecDepth 100000 in
theorem x_gIR (l : Launch) {G : mm_G} {P : mm_H} {H : Heap} {V Q : mm_H} {S : sp_S} {a : Nat} {nd vs tr og num : Nat → Nat} {v : Nat} (hSF : SF G V Q a S nd vs tr og num) (hWF : mm_le V (mm_h H)) (hQF : mm_le Q (mm_h H)) (hW : WF S) (hC : STC S) (hRg : RG S) (hXI : XI S) (hv9 : v < s_nv S) : Mt l yX2_garbageIfReleased (ws_ yX2_garbageIfReleased cX2_garbageIfReleased 2 (some .int)) 14 560 2 400 G P [.ref a, .int (nI v)] H mm_0 (mm_i (nI (s_garb (setR S v) - s_garb S)) (fun _ => True)) := by
  refine Mt.of (by decide) (Nat.le_of_ble_eq_true rfl) (fun p e s m below meth c ls hx hb hr hlk hml hown hnm hts hKK hsH hl hS => ?_)
  have hl : lv_has ls 2 [(0, .ref a), (1, .int (nI v))] := hl
  obtain ⟨⟨vl, va, vcap, nl, na, ncap, vmc, nmc, hOS, hVL, hNLs⟩, hV, hD, hJ, hnum⟩ := id hSF
  have hnv := hW.nv
  have hnn := hW.nn
  have hcs := cB_le (s_nn S) (s_sto S)
  have hgr := garbR (v := v) hXI
  have hrn : rchE S none (s_nv S) = rch S := by funext k; exact rchE_none
  refine lv_aload_n hx hb dX2_garbageIfReleased_0 rfl (lv_at hl 0 rfl) ?_
  refine lv_iconst (v := (-1)) hx hb dX2_garbageIfReleased_1 (by decide) ?_
  refine mm_rr (va_runV (As := [.int (oI none)]) (rest := []) ⟨hx, hb, hml, hown, hts⟩ (x_rable l (e9 := none) hSF hWF hQF hW hC hRg (fun r z => by cases z)) (cwV 1 hts (lw_V q1522 q1523 q1524 q146 q1525) rfl rfl rfl (by decide +kernel) ⟨Nat.le_of_ble_eq_true rfl, Nat.le_of_ble_eq_true rfl⟩) (mm_pV hKK (mm_rc hKK hOS hWF rfl)) rfl rfl hl.1 rfl (lv_room (Nat.le_of_ble_eq_true rfl)) dX2_garbageIfReleased_2 ⟨Nat.le_of_ble_eq_true rfl, Nat.le_of_ble_eq_true rfl⟩) hS (mm_s0 hS) (fun b_2 H_2 L_2 hB_2 hz_2 hq_2 hS => ?_)
  obtain ⟨hA_2, hb_2⟩ := hB_2
  have hWF := hWF.keep hq_2 (fun q z => z.elim)
  have hQF := hQF.keep hq_2 (fun q z => z.elim)
  have hcb_5 := cB_le (s_nn S) (rchE S none (s_nv S))
  refine mm_rpu (va_runS (As := [.ref b_2]) (rest := []) ⟨hx, hb, hml, hown, hts⟩ (x_count l (mk := rchE S none (s_nv S)) hA_2 mm_le.rf (by omega)) (va_cwS 1 hts (lw_S q1540 q1541 q146 q1542) rfl rfl rfl (by decide +kernel) ⟨Nat.le_of_ble_eq_true rfl, Nat.le_of_ble_eq_true rfl⟩) (mm_pS hKK) rfl rfl hl.1 rfl (lv_room (Nat.le_of_ble_eq_true rfl)) dX2_garbageIfReleased_5 ⟨Nat.le_of_ble_eq_true rfl, Nat.le_of_ble_eq_true rfl⟩) hS (mm_s0 hS) (fun L_5 hS => ?_)
  refine mm_top (y := nI (cB (s_nn S) (rch S))) (by rw [hrn]) ?_
  refine lv_aload_n hx hb dX2_garbageIfReleased_8 rfl (lv_at hl 0 rfl) ?_
  refine lv_iload_n hx hb dX2_garbageIfReleased_9 rfl (lv_at hl 1 rfl) ?_
  refine mm_rr (va_runV (As := [.int (oI ((some v)))]) (rest := [.int (nI (cB (s_nn S) (rch S)))]) ⟨hx, hb, hml, hown, hts⟩ (x_rable l (e9 := (some v)) hSF hWF hQF hW hC hRg (fun r z => by cases z; omega)) (cwV 1 hts (lw_V q1522 q1523 q1524 q146 q1525) rfl rfl rfl (by decide +kernel) ⟨Nat.le_of_ble_eq_true rfl, Nat.le_of_ble_eq_true rfl⟩) (mm_pV hKK (mm_rc hKK hOS hWF rfl)) rfl rfl hl.1 rfl (lv_room (Nat.le_of_ble_eq_true rfl)) dX2_garbageIfReleased_10 ⟨Nat.le_of_ble_eq_true rfl, Nat.le_of_ble_eq_true rfl⟩) hS (mm_s0 hS) (fun b_10 H_10 L_10 hB_10 hz_10 hq_10 hS => ?_)
  obtain ⟨hA_10, hb_10⟩ := hB_10
  have hA_2 := hA_2.kept (hq_10 _ hA_2.lt (fun z => z.elim))
  have hWF := hWF.keep hq_10 (fun q z => z.elim)
  have hQF := hQF.keep hq_10 (fun q z => z.elim)
  have hcb_13 := cB_le (s_nn S) (rchE S (some v) (s_nv S))
  refine mm_rpu (va_runS (As := [.ref b_10]) (rest := [.int (nI (cB (s_nn S) (rch S)))]) ⟨hx, hb, hml, hown, hts⟩ (x_count l (mk := rchE S (some v) (s_nv S)) hA_10 mm_le.rf (by omega)) (va_cwS 1 hts (lw_S q1540 q1541 q146 q1542) rfl rfl rfl (by decide +kernel) ⟨Nat.le_of_ble_eq_true rfl, Nat.le_of_ble_eq_true rfl⟩) (mm_pS hKK) rfl rfl hl.1 rfl (lv_room (Nat.le_of_ble_eq_true rfl)) dX2_garbageIfReleased_13 ⟨Nat.le_of_ble_eq_true rfl, Nat.le_of_ble_eq_true rfl⟩) hS (mm_s0 hS) (fun L_13 hS => ?_)
  refine mm_isub (by omega) hx hb dX2_garbageIfReleased_16 ?_
  exact mm_iret (v := nI ((cB (s_nn S) (rch S)) - (cB (s_nn S) (rchE S (some v) (s_nv S))))) hx hb hr hlk hS (Nat.le_of_ble_eq_true rfl) (Nat.le_of_ble_eq_true rfl) (⟨by rw [hgr.2], trivial⟩) dX2_garbageIfReleased_17
set_option maxRecDepth 100000 in
theorem x_ca (l : Launch) {G : mm_G} {P : mm_H} {H : Heap} {V Q : mm_H} {S : sp_S} {a : Nat} {nd vs tr og num : Nat → Nat} {v u : Nat} (hSF : SF G V Q a S nd vs tr og num) (hWF : mm_le V (mm_h H)) (hQF : mm_le Q (mm_h H)) (hW : WF S) (hVT : VT S) (hv9 : v < s_nv S) (hu9 : u < s_nv S) : Mt l yX2_commonAncestor (ws_ yX2_commonAncestor cX2_commonAncestor 5 (some .int)) 4 130 0 0 G P [.ref a, .int (nI v), .int (nI u)] H mm_0 (mm_pu (.int (nI (caF S v u))) H) := by
  refine Mt.of (by decide) (Nat.le_of_ble_eq_true rfl) (fun p e s m below meth c ls hx hb hr hlk hml hown hnm hts hKK hsH hl hS => ?_)
  have hl : lv_has ls 5 [(0, .ref a), (1, .int (nI v)), (2, .int (nI u))] := hl
  obtain ⟨⟨vl, va, vcap, nl, na, ncap, vmc, nmc, hOS, hVL, hNLs⟩, hV, hD, hJ, hnum⟩ := id hSF
  have hnv := hW.nv
  have hnn := hW.nn
  have hcs := cB_le (s_nn S) (s_sto S)
  refine lv_iload_n hx hb dX2_commonAncestor_0 rfl (lv_at hl 1 rfl) ?_
  refine lv_istore_n (lv' := [(3, .int (nI v)), (0, .ref a), (1, .int (nI v)), (2, .int (nI u))]) hx hb dX2_commonAncestor_1 rfl hl (by decide) rfl (fun ls hl => ?_)
  refine lv_iload_n hx hb dX2_commonAncestor_2 rfl (lv_at hl 3 rfl) ?_
  refine lv_istore (lv' := [(4, .int (nI u)), (3, .int (nI v)), (0, .ref a), (1, .int (nI v)), (2, .int (nI u))]) hx hb dX2_commonAncestor_3 hl (by decide) rfl (fun ls hl => ?_)
  have lp_5 : ∀ (fu : Nat) (i : Nat) (j : Nat) (n : Nat)  (L : List Loc) (ls : Array Slot), n < fu → (i < s_nv S) → (j < s_nv S) → (i + j < n) → (caN S n i j = caF S v u) → lv_has ls 5 [(3, .int (nI i)), (4, .int (nI j)), (0, .ref a), (1, .int (nI v)), (2, .int (nI u))] → va_S (mm_A mm_0 H) H H L → W p l e (mm_rm 4 130 0 0) s m ([.ref a, .int (nI v), .int (nI u)] : List Value).toArray below meth c H L 0 0 (MQ below (mm_Qc H mm_0 (mm_pu (.int (nI (caF S v u))) H)) ([.ref a, .int (nI v), .int (nI u)] : List Value).toArray s 0 0 (mm_A mm_0 H)) (F0 m 5 ls []) := by
    intro fu; induction fu with
    | zero => intro i j n L ls hfu; exact absurd hfu (Nat.not_lt_zero _)
    | succ fu ih =>
      intro i j n L ls hfu hi hj hn hca hl  hS
      have ih_5 := ih
      refine lv_iload_n hx hb dX2_commonAncestor_5 rfl (lv_at hl 0 rfl) ?_
      refine lv_iload hx hb dX2_commonAncestor_6 (lv_at hl 1 rfl) ?_
      refine mm_icmp_eq (tgt := 43) (by omega) (by omega) hx hb dX2_commonAncestor_8 (by decide) (fun c_8 => ?_) (fun c_8 => ?_)
      · refine lv_iload_n hx hb dX2_commonAncestor_43 rfl (lv_at hl 0 rfl) ?_
        exact mm_iret (v := nI i) hx hb hr hlk hS (Nat.le_of_ble_eq_true rfl) (Nat.le_of_ble_eq_true rfl) (⟨by rw [← hca, show i = j by omega]; obtain ⟨z, rfl⟩ : ∃ z, n = z + 1 := ⟨n - 1, by omega⟩; rw [caN_e], rfl⟩) dX2_commonAncestor_44
      · refine lv_iload_n hx hb dX2_commonAncestor_11 rfl (lv_at hl 0 rfl) ?_
        refine lv_iload hx hb dX2_commonAncestor_12 (lv_at hl 1 rfl) ?_
        refine mm_icmp_le (tgt := 29) (by omega) (by omega) hx hb dX2_commonAncestor_14 (by decide) (fun c_14 => ?_) (fun c_14 => ?_)
        · refine lv_aload_n hx hb dX2_commonAncestor_29 rfl (lv_at hl 2 rfl) ?_
          refine lv_iload hx hb dX2_commonAncestor_30 (lv_at hl 1 rfl) ?_
          obtain ⟨hv_7, ⟨rt_7, ht_7, hrt_7⟩, hog_7⟩ := hV j (by omega)
          refine mm_rpu (va_runV (As := [.int (nI j)]) (rest := []) ⟨hx, hb, hml, hown, hts⟩ (x_ver l hSF hWF hQF hW (by omega)) (cwV 1 hts (lw_V q1086 q1087 q1088 q146 q1089) rfl rfl rfl (by decide +kernel) ⟨Nat.le_of_ble_eq_true rfl, Nat.le_of_ble_eq_true rfl⟩) (mm_pV hKK (mm_rc hKK hOS hWF rfl)) rfl rfl hl.1 rfl (lv_room (Nat.le_of_ble_eq_true rfl)) dX2_commonAncestor_32 ⟨Nat.le_of_ble_eq_true rfl, Nat.le_of_ble_eq_true rfl⟩) hS (mm_s0 hS) (fun L_32 hS => ?_)
          refine mm_getN (C := RX7) (T := TX7) (N := 6) (ci := 2) (v := .int (oI (s_par S j))) hx hb hts in_X7 hown hKK (mm_ob.rb hv_7) hWF rfl 1 (by decide) q817 (fun _ h9 => h9) rfl dX2_commonAncestor_35 ?_
          obtain ⟨q9, hq9⟩ := hVT.par hj (by omega)
          have hqlt := hW.par hj hq9
          refine mm_top (y := nI q9) (oI_some hq9) ?_
          refine lv_istore (lv' := [(4, .int (nI q9)), (3, .int (nI i)), (0, .ref a), (1, .int (nI v)), (2, .int (nI u))]) hx hb dX2_commonAncestor_38 hl (by decide) rfl (fun ls hl => ?_)
          refine lv_goto (tgt := 5) hx hb dX2_commonAncestor_40 (by decide) ?_
          exact ih_5 i q9 (n - 1) _ _ (by omega) (by omega) (by omega) (by omega) (by rw [← hca]; obtain ⟨z, rfl⟩ : ∃ z, n = z + 1 := ⟨n - 1, by omega⟩; exact (caN_b (by omega) hq9).symm) (lv_sub hl [1, 0, 2, 3, 4] rfl)  hS
        · refine lv_aload_n hx hb dX2_commonAncestor_17 rfl (lv_at hl 2 rfl) ?_
          refine lv_iload_n hx hb dX2_commonAncestor_18 rfl (lv_at hl 0 rfl) ?_
          obtain ⟨hv_8, ⟨rt_8, ht_8, hrt_8⟩, hog_8⟩ := hV i (by omega)
          refine mm_rpu (va_runV (As := [.int (nI i)]) (rest := []) ⟨hx, hb, hml, hown, hts⟩ (x_ver l hSF hWF hQF hW (by omega)) (cwV 1 hts (lw_V q1086 q1087 q1088 q146 q1089) rfl rfl rfl (by decide +kernel) ⟨Nat.le_of_ble_eq_true rfl, Nat.le_of_ble_eq_true rfl⟩) (mm_pV hKK (mm_rc hKK hOS hWF rfl)) rfl rfl hl.1 rfl (lv_room (Nat.le_of_ble_eq_true rfl)) dX2_commonAncestor_19 ⟨Nat.le_of_ble_eq_true rfl, Nat.le_of_ble_eq_true rfl⟩) hS (mm_s0 hS) (fun L_19 hS => ?_)
          refine mm_getN (C := RX7) (T := TX7) (N := 6) (ci := 2) (v := .int (oI (s_par S i))) hx hb hts in_X7 hown hKK (mm_ob.rb hv_8) hWF rfl 1 (by decide) q817 (fun _ h9 => h9) rfl dX2_commonAncestor_22 ?_
          obtain ⟨q9, hq9⟩ := hVT.par hi (by omega)
          have hqlt := hW.par hi hq9
          refine mm_top (y := nI q9) (oI_some hq9) ?_
          refine lv_istore_n (lv' := [(3, .int (nI q9)), (4, .int (nI j)), (0, .ref a), (1, .int (nI v)), (2, .int (nI u))]) hx hb dX2_commonAncestor_25 rfl hl (by decide) rfl (fun ls hl => ?_)
          refine lv_goto (tgt := 5) hx hb dX2_commonAncestor_26 (by decide) ?_
          exact ih_5 q9 j (n - 1) _ _ (by omega) (by omega) (by omega) (by omega) (by rw [← hca]; obtain ⟨z, rfl⟩ : ∃ z, n = z + 1 := ⟨n - 1, by omega⟩; exact (caN_a (by omega) hq9).symm) (lv_sub hl [0, 1, 2, 3, 4] rfl)  hS
  exact lp_5 _ v u 100 _ _ (Nat.lt_succ_self _) (by omega) (by omega) (by omega) (rfl) (lv_sub hl [1, 0, 2, 3, 4] rfl)  hS
set_option maxRecDepth 100000 in
theorem x_fd (l : Launch) {G : mm_G} {P : mm_H} {H : Heap} {V Q : mm_H} {S : sp_S} {a : Nat} {nd vs tr og num : Nat → Nat} {a9 b9 v u : Nat} (hSF : SF G V Q a S nd vs tr og num) (hWF : mm_le V (mm_h H)) (hQF : mm_le Q (mm_h H)) (hW : WF S) (hlv : s_len S v ≤ 64) (hlu : s_len S u ≤ 64) (hO : mm_ob G Q a9 3 [va_rf ((s_root S v).map nd), .int (nI (s_len S v)), .int (nI (hf (s_len S v)))]) (hg : RgV S v) (hO2 : mm_ob G Q b9 3 [va_rf ((s_root S u).map nd), .int (nI (s_len S u)), .int (nI (hf (s_len S u)))]) (hg2 : RgV S u) : Mt l yX2_firstDifference (ws_ yX2_firstDifference cX2_firstDifference 5 (some .int)) 10 500 0 0 G P [.ref a, .ref a9, .ref b9] H mm_0 (mm_pu (.int (oI (fI 64 (dfA S v u)))) H) := by
  refine Mt.of (by decide) (Nat.le_of_ble_eq_true rfl) (fun p e s m below meth c ls hx hb hr hlk hml hown hnm hts hKK hsH hl hS => ?_)
  have hl : lv_has ls 5 [(0, .ref a), (1, .ref a9), (2, .ref b9)] := hl
  obtain ⟨⟨vl, va, vcap, nl, na, ncap, vmc, nmc, hOS, hVL, hNLs⟩, hV, hD, hJ, hnum⟩ := id hSF
  have hnv := hW.nv
  have hnn := hW.nn
  have hcs := cB_le (s_nn S) (s_sto S)
  have hlv9 := hlv
  have hlu9 := hlu
  refine lv_aload_n hx hb dX2_firstDifference_0 rfl (lv_at hl 1 rfl) ?_
  refine mm_getN (C := RX6) (T := TX6) (N := 3) (ci := 3) (v := .int (nI (s_len S v))) hx hb hts in_X6 hown hKK (mm_ob.rb hO) hQF rfl 1 (by decide) q791 (fun _ h9 => h9) rfl dX2_firstDifference_1 ?_
  refine lv_aload_n hx hb dX2_firstDifference_4 rfl (lv_at hl 2 rfl) ?_
  refine mm_getN (C := RX6) (T := TX6) (N := 3) (ci := 3) (v := .int (nI (s_len S u))) hx hb hts in_X6 hown hKK (mm_ob.rb hO2) hQF rfl 1 (by decide) q791 (fun _ h9 => h9) rfl dX2_firstDifference_5 ?_
  refine va_mmin (x := nI (s_len S v)) (y := nI (s_len S u)) (rest := []) hx hb (hml.trans hl.1.symm) hown (hts _ q696) (hts _ q322) (hts _ q143) (hts _ q323) (Nat.le_of_ble_eq_true rfl) (Nat.le_of_ble_eq_true rfl) (Nat.le_of_ble_eq_true rfl) (Nat.le_of_ble_eq_true rfl) dX2_firstDifference_8 ?_
  refine mm_top (mm_minN (by omega) (by omega)) ?_
  refine lv_istore_n (lv' := [(3, .int (nI (min (s_len S v) (s_len S u)))), (0, .ref a), (1, .ref a9), (2, .ref b9)]) hx hb dX2_firstDifference_11 rfl hl (by decide) rfl (fun ls hl => ?_)
  refine lv_iconst (v := nI 0) hx hb dX2_firstDifference_12 (by decide) ?_
  refine lv_istore (lv' := [(4, .int (nI 0)), (3, .int (nI (min (s_len S v) (s_len S u)))), (0, .ref a), (1, .ref a9), (2, .ref b9)]) hx hb dX2_firstDifference_13 hl (by decide) rfl (fun ls hl => ?_)
  have lp_15 : ∀ (fu : Nat) (i : Nat)  (L : List Loc) (ls : Array Slot), 64 - i < fu → (i ≤ min (s_len S v) (s_len S u)) → (∀ j, j < i → s_els S v j = s_els S u j) → lv_has ls 5 [(4, .int (nI i)), (3, .int (nI (min (s_len S v) (s_len S u)))), (0, .ref a), (1, .ref a9), (2, .ref b9)] → va_S (mm_A mm_0 H) H H L → W p l e (mm_rm 10 500 0 0) s m ([.ref a, .ref a9, .ref b9] : List Value).toArray below meth c H L 0 0 (MQ below (mm_Qc H mm_0 (mm_pu (.int (oI (fI 64 (dfA S v u)))) H)) ([.ref a, .ref a9, .ref b9] : List Value).toArray s 0 0 (mm_A mm_0 H)) (F0 m 15 ls []) := by
    intro fu; induction fu with
    | zero => intro i L ls hfu; exact absurd hfu (Nat.not_lt_zero _)
    | succ fu ih =>
      intro i L ls hfu hi hq hl  hS
      have ih_15 := ih
      refine lv_iload hx hb dX2_firstDifference_15 (lv_at hl 0 rfl) ?_
      refine lv_iload_n hx hb dX2_firstDifference_17 rfl (lv_at hl 1 rfl) ?_
      refine mm_icmp_ge (tgt := 40) (by omega) (by omega) hx hb dX2_firstDifference_18 (by decide) (fun c_18 => ?_) (fun c_18 => ?_)
      · refine lv_aload_n hx hb dX2_firstDifference_40 rfl (lv_at hl 3 rfl) ?_
        refine mm_getN (C := RX6) (T := TX6) (N := 3) (ci := 3) (v := .int (nI (s_len S v))) hx hb hts in_X6 hown hKK (mm_ob.rb hO) hQF rfl 1 (by decide) q791 (fun _ h9 => h9) rfl dX2_firstDifference_41 ?_
        refine lv_aload_n hx hb dX2_firstDifference_44 rfl (lv_at hl 4 rfl) ?_
        refine mm_getN (C := RX6) (T := TX6) (N := 3) (ci := 3) (v := .int (nI (s_len S u))) hx hb hts in_X6 hown hKK (mm_ob.rb hO2) hQF rfl 1 (by decide) q791 (fun _ h9 => h9) rfl dX2_firstDifference_45 ?_
        refine mm_icmp_ne (tgt := 55) (by omega) (by omega) hx hb dX2_firstDifference_48 (by decide) (fun c_48 => ?_) (fun c_48 => ?_)
        · refine lv_iload_n hx hb dX2_firstDifference_55 rfl (lv_at hl 1 rfl) ?_
          have hq9 : ∀ j, j < min (s_len S v) (s_len S u) → s_els S v j = s_els S u j := fun j hj => hq j (by omega)
          exact mm_iret (v := nI (min (s_len S v) (s_len S u))) hx hb hr hlk hS (Nat.le_of_ble_eq_true rfl) (Nat.le_of_ble_eq_true rfl) (⟨by rw [fI_df hlv hlu hq9, if_neg c_48]; rfl, rfl⟩) dX2_firstDifference_56
        · refine lv_iconst (v := (-1)) hx hb dX2_firstDifference_51 (by decide) ?_
          refine lv_goto (tgt := 56) hx hb dX2_firstDifference_52 (by decide) ?_
          have hq9 : ∀ j, j < min (s_len S v) (s_len S u) → s_els S v j = s_els S u j := fun j hj => hq j (by omega)
          exact mm_iret (v := (-1)) hx hb hr hlk hS (Nat.le_of_ble_eq_true rfl) (Nat.le_of_ble_eq_true rfl) (⟨by rw [fI_df hlv hlu hq9, if_pos c_48]; rfl, rfl⟩) dX2_firstDifference_56
      · refine lv_aload_n hx hb dX2_firstDifference_21 rfl (lv_at hl 3 rfl) ?_
        refine lv_aload_n hx hb dX2_firstDifference_22 rfl (lv_at hl 4 rfl) ?_
        refine lv_iload hx hb dX2_firstDifference_23 (lv_at hl 0 rfl) ?_
        refine mm_rpu (va_runV (As := [.ref b9, .int (nI i)]) (rest := []) ⟨hx, hb, hml, hown, hts⟩ (x_same l hD hQF hO hg hO2 hg2 (by omega) (by omega)) (cwV 2 hts (lw_V q2259 q2260 q2261 q161 q2262) rfl rfl rfl (by decide +kernel) ⟨Nat.le_of_ble_eq_true rfl, Nat.le_of_ble_eq_true rfl⟩) (mm_pV hKK (mm_rc hKK hO hQF rfl)) rfl rfl hl.1 rfl (lv_room (Nat.le_of_ble_eq_true rfl)) dX2_firstDifference_25 ⟨Nat.le_of_ble_eq_true rfl, Nat.le_of_ble_eq_true rfl⟩) hS (mm_s0 hS) (fun L_25 hS => ?_)
        refine mm_ifneB (tgt := 34) hx hb dX2_firstDifference_28 (by decide) (fun c_28 => ?_) (fun c_28 => ?_)
        · refine lv_iinc (v := nI (i + 1)) (lv' := [(4, .int (nI (i + 1))), (3, .int (nI (min (s_len S v) (s_len S u)))), (0, .ref a), (1, .ref a9), (2, .ref b9)]) hx hb dX2_firstDifference_34 hl (k := 0) rfl (nI_add _ _) (by decide) rfl (fun ls hl => ?_)
          refine lv_goto (tgt := 15) hx hb dX2_firstDifference_37 (by decide) ?_
          exact ih_15 (i + 1) _ _ (by omega) (by omega) (fun j hj => by by_cases z : j = i; rw [z]; exact of_decide_eq_true c_28; exact hq j (by omega)) (lv_sub hl [0, 1, 2, 3, 4] rfl)  hS
        · refine lv_iload hx hb dX2_firstDifference_31 (lv_at hl 0 rfl) ?_
          exact mm_iret (v := nI i) hx hb hr hlk hS (Nat.le_of_ble_eq_true rfl) (Nat.le_of_ble_eq_true rfl) (⟨by rw [fI_dd hlv (by omega) (of_decide_eq_false c_28) hq]; rfl, rfl⟩) dX2_firstDifference_33
  exact lp_15 _ 0 _ _ (Nat.lt_succ_self _) (by omega) (fun j hj => absurd hj (Nat.not_lt_zero _)) (lv_sub hl [0, 1, 2, 3, 4] rfl)  hS
set_option maxRecDepth 100000 in
theorem x_node (l : Launch) {G : mm_G} {P : mm_H} {H : Heap} {V Q : mm_H} {S : sp_S} {a : Nat} {nd vs tr og num : Nat → Nat} {c9 : Int32} (hSF : SF G V Q a S nd vs tr og num) (hWF : mm_le V (mm_h H)) (hQF : mm_le Q (mm_h H)) (hW : WF S) : Mt l yX2_node (ws_ yX2_node cX2_node 3 (some (.object "VectorVersions$Node"))) 4 130 0 0 G P [.ref a, .int c9] H mm_0 (mm_pu (va_rf (if isSt S c9 = true then some (nd c9.toNatClampNeg) else none)) H) := by
  refine Mt.of (by decide) (Nat.le_of_ble_eq_true rfl) (fun p e s m below meth c ls hx hb hr hlk hml hown hnm hts hKK hsH hl hS => ?_)
  have hl : lv_has ls 3 [(0, .ref a), (1, .int c9)] := hl
  obtain ⟨⟨vl, va, vcap, nl, na, ncap, vmc, nmc, hOS, hVL, hNLs⟩, hV, hD, hJ, hnum⟩ := id hSF
  have hnv := hW.nv
  have hnn := hW.nn
  have hcs := cB_le (s_nn S) (s_sto S)
  refine lv_iconst (v := nI 0) hx hb dX2_node_0 (by decide) ?_
  refine lv_istore_n (lv' := [(2, .int (nI 0)), (0, .ref a), (1, .int c9)]) hx hb dX2_node_1 rfl hl (by decide) rfl (fun ls hl => ?_)
  have lp_2 : ∀ (fu : Nat) (i : Nat)  (L : List Loc) (ls : Array Slot), cB (s_nn S) (s_sto S) - i < fu → (i ≤ cB (s_nn S) (s_sto S)) → (∀ j, j < i → ¬ nI (num j) = c9) → lv_has ls 3 [(2, .int (nI i)), (0, .ref a), (1, .int c9)] → va_S (mm_A mm_0 H) H H L → W p l e (mm_rm 4 130 0 0) s m ([.ref a, .int c9] : List Value).toArray below meth c H L 0 0 (MQ below (mm_Qc H mm_0 (mm_pu (va_rf (if isSt S c9 = true then some (nd c9.toNatClampNeg) else none)) H)) ([.ref a, .int c9] : List Value).toArray s 0 0 (mm_A mm_0 H)) (F0 m 2 ls []) := by
    intro fu; induction fu with
    | zero => intro i L ls hfu; exact absurd hfu (Nat.not_lt_zero _)
    | succ fu ih =>
      intro i L ls hfu hi hq hl  hS
      have ih_2 := ih
      refine lv_iload_n hx hb dX2_node_2 rfl (lv_at hl 0 rfl) ?_
      refine lv_aload_n hx hb dX2_node_3 rfl (lv_at hl 1 rfl) ?_
      refine mm_get (C := RX2) (T := TX2) (N := 3) (ci := 1) (v := .ref nl) hx hb hts in_X2 hown hKK (mm_ob.rb hOS) hWF rfl 1 (by decide) (hts _ q648) (fun _ h9 => h9) rfl dX2_node_4 ?_
      refine mm_rpu5 (va_runF (As := []) (rest := [.int (nI i)]) (hKK.K.1 15 _ rfl).2 ⟨hx, hb, hml, hown, hts⟩ (a_size l hNLs hWF) (va_cwF 0 hts (lw_FF q664 q667 q669 q138 (lw_meth q671)) rfl rfl rfl (hKK.F.use 0 rfl) (by decide +kernel) ⟨Nat.le_of_ble_eq_true rfl, Nat.le_of_ble_eq_true rfl⟩) (mm_pV hKK (mm_rc hKK hNLs.1 hWF rfl)) rfl rfl hl.1 rfl (lv_room (Nat.le_of_ble_eq_true rfl)) dX2_node_7 ⟨Nat.le_of_ble_eq_true rfl, Nat.le_of_ble_eq_true rfl⟩) hS (mm_s0 hS) (fun L_7 hS => ?_)
      refine mm_icmp_ge (tgt := 55) (by omega) (by omega) hx hb dX2_node_12 (by decide) (fun c_12 => ?_) (fun c_12 => ?_)
      · refine lv_null hx hb dX2_node_55 ?_
        exact mm_aret (v := .null) hx hb hr rfl hlk hS (Nat.le_of_ble_eq_true rfl) (Nat.le_of_ble_eq_true rfl) (Or.inl rfl) (⟨by rw [if_neg (by rw [(isSt_num hW hnum).2 (fun j hj => hq j (by omega))]; decide)]; rfl, rfl⟩) dX2_node_56
      · obtain ⟨hnl9, hns9⟩ := hnum.1 i (by omega)
        have hNn := hD _ hnl9 hns9
        refine lv_aload_n hx hb dX2_node_15 rfl (lv_at hl 1 rfl) ?_
        refine mm_get (C := RX2) (T := TX2) (N := 3) (ci := 1) (v := .ref nl) hx hb hts in_X2 hown hKK (mm_ob.rb hOS) hWF rfl 1 (by decide) (hts _ q648) (fun _ h9 => h9) rfl dX2_node_16 ?_
        refine lv_iload_n hx hb dX2_node_19 rfl (lv_at hl 0 rfl) ?_
        refine mm_rpu5 (va_runF (As := [.int (nI i)]) (rest := []) (hKK.K.1 15 _ rfl).2 ⟨hx, hb, hml, hown, hts⟩ (a_get l hNLs hWF (by omega)) (va_cwF 1 hts (lw_FF q673 q676 q678 q138 (lw_meth q680)) rfl rfl rfl (hKK.F.use 2 rfl) (by decide +kernel) ⟨Nat.le_of_ble_eq_true rfl, Nat.le_of_ble_eq_true rfl⟩) (mm_pV hKK (mm_rc hKK hNLs.1 hWF rfl)) rfl rfl hl.1 rfl (lv_room (Nat.le_of_ble_eq_true rfl)) dX2_node_20 ⟨Nat.le_of_ble_eq_true rfl, Nat.le_of_ble_eq_true rfl⟩) hS (mm_s0 hS) (fun L_20 hS => ?_)
        refine mm_topv (y := .ref (nd (num i))) rfl ?_
        refine mm_castNd hx hb hKK hown (hts _ q739) hNn hQF dX2_node_25 ?_
        refine mm_num hx hb hts hown hKK hNn hQF q724 dX2_node_28 ?_
        refine lv_iload_n hx hb dX2_node_31 rfl (lv_at hl 2 rfl) ?_
        refine lv_icmp_ne (tgt := 49) hx hb dX2_node_32 (by decide) (fun c_32 => ?_) (fun c_32 => ?_)
        · refine lv_iinc (v := nI (i + 1)) (lv' := [(2, .int (nI (i + 1))), (0, .ref a), (1, .int c9)]) hx hb dX2_node_49 hl (k := 0) rfl (nI_add _ _) (by decide) rfl (fun ls hl => ?_)
          refine lv_goto (tgt := 2) hx hb dX2_node_52 (by decide) ?_
          exact ih_2 (i + 1) _ _ (by omega) (by omega) (fun j hj => by by_cases z : j = i; rw [z]; exact c_32; exact hq j (by omega)) (lv_sub hl [0, 1, 2] rfl)  hS
        · refine lv_aload_n hx hb dX2_node_35 rfl (lv_at hl 1 rfl) ?_
          refine mm_get (C := RX2) (T := TX2) (N := 3) (ci := 1) (v := .ref nl) hx hb hts in_X2 hown hKK (mm_ob.rb hOS) hWF rfl 1 (by decide) (hts _ q648) (fun _ h9 => h9) rfl dX2_node_36 ?_
          refine lv_iload_n hx hb dX2_node_39 rfl (lv_at hl 0 rfl) ?_
          refine mm_rpu5 (va_runF (As := [.int (nI i)]) (rest := []) (hKK.K.1 15 _ rfl).2 ⟨hx, hb, hml, hown, hts⟩ (a_get l hNLs hWF (by omega)) (va_cwF 1 hts (lw_FF q673 q676 q678 q138 (lw_meth q680)) rfl rfl rfl (hKK.F.use 2 rfl) (by decide +kernel) ⟨Nat.le_of_ble_eq_true rfl, Nat.le_of_ble_eq_true rfl⟩) (mm_pV hKK (mm_rc hKK hNLs.1 hWF rfl)) rfl rfl hl.1 rfl (lv_room (Nat.le_of_ble_eq_true rfl)) dX2_node_40 ⟨Nat.le_of_ble_eq_true rfl, Nat.le_of_ble_eq_true rfl⟩) hS (mm_s0 hS) (fun L_40 hS => ?_)
          refine mm_topv (y := .ref (nd (num i))) rfl ?_
          refine mm_castNd hx hb hKK hown (hts _ q739) hNn hQF dX2_node_45 ?_
          exact mm_aret (v := .ref (nd (num i))) hx hb hr rfl hlk hS (Nat.le_of_ble_eq_true rfl) (Nat.le_of_ble_eq_true rfl) (Or.inr ⟨_, rfl⟩) (⟨by obtain ⟨y1, y2⟩ := (isSt_num hW hnum).1 i (by omega) c_32; rw [if_pos y1, y2]; rfl, rfl⟩) dX2_node_48
  exact lp_2 _ 0 _ _ (Nat.lt_succ_self _) (by omega) (fun j hj => absurd hj (Nat.not_lt_zero _)) (lv_sub hl [0, 1, 2] rfl)  hS
