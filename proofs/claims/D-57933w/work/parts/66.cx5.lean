/-! the component: what versions reach, garbage (printed by tools/cx5.py) -/
set_option maxRecDepth 100000 in
theorem x_reach0 (l : Launch) {G : mm_G} {P : mm_H} {H : Heap} {V Q : mm_H} {S : sp_S} {a : Nat} {nd vs tr og num : Nat → Nat} {arr : Nat} (hSF : SF G V Q a S nd vs tr og num) (hWF : mm_le V (mm_h H)) (hQF : mm_le Q (mm_h H)) (hW : WF S) : Mt l yX2_reach (ws_ yX2_reach cX2_reach 4 none) 1 30 0 0 G P [.ref a, .null, .ref arr] H mm_0 (mm_v (fun H1 => H = H1)) := by
  refine Mt.of (by decide) (Nat.le_of_ble_eq_true rfl) (fun p e s m below meth c ls hx hb hr hlk hml hown hnm hts hKK hsH hl hS => ?_)
  have hl : lv_has ls 4 [(0, .ref a), (1, .null), (2, .ref arr)] := hl
  obtain ⟨⟨vl, va, vcap, nl, na, ncap, vmc, nmc, hOS, hVL, hNLs⟩, hV, hD, hJ, hnum⟩ := id hSF
  have hnv := hW.nv
  have hnn := hW.nn
  have hcs := cB_le (s_nn S) (s_sto S)
  refine lv_aload_nN hx hb dX2_reach_0 rfl (lv_at hl 1 rfl) ?_
  refine lv_ifnullN (tgt := 13) hx hb dX2_reach_1 (by decide) ?_
  exact mm_vret hx hb hr hlk hS (Nat.le_of_ble_eq_true rfl) (Nat.le_of_ble_eq_true rfl) (⟨rfl, rfl⟩) dX2_reach_13
set_option maxRecDepth 100000 in
theorem x_rfrom (l : Launch) {G : mm_G} {P : mm_H} {H : Heap} {V Q : mm_H} {S : sp_S} {a : Nat} {nd vs tr og num : Nat → Nat} {v : Nat} (hSF : SF G V Q a S nd vs tr og num) (hWF : mm_le V (mm_h H)) (hQF : mm_le Q (mm_h H)) (hW : WF S) (hC : STC S) (hRg : RG S) (hv9 : v < s_nv S) (hl9 : s_rel S v = false) : Mt l yX2_reachableFrom (ws_ yX2_reachableFrom cX2_reachableFrom 3 (some (.array .boolean))) 12 500 1 200 G P [.ref a, .int (nI v)] H mm_0 (mm_r (fun b H1 => mm_ia G (mm_h H1) b 2 (s_nn S) (fun j => mm_b ((tn S v).contains j)) ∧ H.size ≤ b)) := by
  refine Mt.of (by decide) (Nat.le_of_ble_eq_true rfl) (fun p e s m below meth c ls hx hb hr hlk hml hown hnm hts hKK hsH hl hS => ?_)
  have hl : lv_has ls 3 [(0, .ref a), (1, .int (nI v))] := hl
  obtain ⟨⟨vl, va, vcap, nl, na, ncap, vmc, nmc, hOS, hVL, hNLs⟩, hV, hD, hJ, hnum⟩ := id hSF
  have hnv := hW.nv
  have hnn := hW.nn
  have hcs := cB_le (s_nn S) (s_sto S)
  have hh3 := hf_le3 (s_len S v)
  refine lv_aload_n hx hb dX2_reachableFrom_0 rfl (lv_at hl 0 rfl) ?_
  refine mm_get (C := RX2) (T := TX2) (N := 3) (ci := 1) (v := .int (nI (s_nn S))) hx hb hts in_X2 hown hKK (mm_ob.rb hOS) hWF rfl 2 (by decide) (hts _ q650) (fun _ h9 => h9) rfl dX2_reachableFrom_1 ?_
  have hs1 := hS.1
  refine mm_newa 2 .boolean rfl rfl (fun C z => by cases z) hx hb (hts _ q1578) hKK hS (N := (s_nn S)) (f := fun _ => .int 0) rfl (by omega) (by show _ * 1 ≤ _; omega) (by simp only [mm_rm]; omega) (by simp only [mm_rm]; omega) dX2_reachableFrom_4 (fun a_4 H_4 ea_4 ha_4 hz_4 hq_4 hS => ?_)
  have ha_4 : mm_ia G (mm_h H_4) a_4 2 (s_nn S) (fun _ => 0) := ha_4
  have hWF0 := hWF
  have hQF0 := hQF
  have hWF := hWF.push hq_4
  have hQF := hQF.push hq_4
  have hle_a_4 : H.size ≤ a_4 := by rw [ea_4]; exact hs1
  have hVa : V a_4 = none := hWF0.new (Nat.le_of_eq ea_4.symm)
  have hQa : Q a_4 = none := hQF0.new (Nat.le_of_eq ea_4.symm)
  refine lv_astore_n (lv' := [(2, .ref a_4), (0, .ref a), (1, .int (nI v))]) hx hb dX2_reachableFrom_6 rfl hl (by decide) rfl (fun ls hl => ?_)
  refine lv_aload_n hx hb dX2_reachableFrom_7 rfl (lv_at hl 1 rfl) ?_
  refine lv_aload_n hx hb dX2_reachableFrom_8 rfl (lv_at hl 1 rfl) ?_
  refine lv_iload_n hx hb dX2_reachableFrom_9 rfl (lv_at hl 2 rfl) ?_
  obtain ⟨hv_5, ⟨rt_5, ht_5, hrt_5⟩, hog_5⟩ := hV v (by omega)
  refine mm_rpu (va_runV (As := [.int (nI v)]) (rest := [.ref a]) ⟨hx, hb, hml, hown, hts⟩ (x_tree l hSF hWF hQF hW (by omega)) (cwV 1 hts (lw_V q1526 q1083 q1084 q146 q1085) rfl rfl rfl (by decide +kernel) ⟨Nat.le_of_ble_eq_true rfl, Nat.le_of_ble_eq_true rfl⟩) (mm_pV hKK (mm_rc hKK hOS hWF rfl)) rfl rfl hl.1 rfl (lv_room (Nat.le_of_ble_eq_true rfl)) dX2_reachableFrom_10 ⟨Nat.le_of_ble_eq_true rfl, by simp only [mm_rm]; omega⟩) hS (mm_s0 hS) (fun L_10 hS => ?_)
  refine mm_getN (C := RX6) (T := TX6) (N := 3) (ci := 3) (v := va_rf rt_5) hx hb hts in_X6 hown hKK (mm_ob.rb ht_5) hQF rfl 0 (by decide) q787 (fun _ h9 => h9) rfl dX2_reachableFrom_13 ?_
  have hrt9 := hrt_5 (hl9)
  rcases hro : s_root S v with _ | r9
  · refine mm_topv (y := .null) (by rw [hrt9, hro]; rfl) ?_
    refine lv_aload_n hx hb dX2_reachableFrom_16 rfl (lv_at hl 0 rfl) ?_
    refine mm_rv (va_runV (As := [.null, .ref a_4]) (rest := []) ⟨hx, hb, hml, hown, hts⟩ (x_reach0 l hSF hWF hQF hW) (cwV 2 hts (lw_V q1527 q1529 qs44 q146 q1530) rfl rfl rfl (by decide +kernel) ⟨Nat.le_of_ble_eq_true rfl, Nat.le_of_ble_eq_true rfl⟩) (mm_pV hKK (mm_rc hKK hOS hWF rfl)) rfl rfl hl.1 rfl (lv_room (Nat.le_of_ble_eq_true rfl)) dX2_reachableFrom_17 ⟨Nat.le_of_ble_eq_true rfl, by simp only [mm_rm]; omega⟩) hS (mm_s0 hS) (fun H_17 L_17 hB_17 _ _ hS => ?_)
    subst hB_17
    refine lv_aload_n hx hb dX2_reachableFrom_20 rfl (lv_at hl 0 rfl) ?_
    exact mm_aret (v := .ref a_4) hx hb hr rfl hlk hS (Nat.le_of_ble_eq_true rfl) (by omega) (Or.inr ⟨_, rfl⟩) (⟨a_4, rfl, by rw [show (fun j => mm_b ((tn S v).contains j)) = fun _ => mm_b false by funext j; rw [tn_none hro]; rfl]; exact ha_4, hle_a_4⟩) dX2_reachableFrom_21
  · refine mm_topv (y := .ref (nd r9)) (by rw [hrt9, hro]; rfl) ?_
    refine lv_aload_n hx hb dX2_reachableFrom_16 rfl (lv_at hl 0 rfl) ?_
    refine mm_rv (va_runV (As := [.ref (nd r9), .ref a_4]) (rest := []) ⟨hx, hb, hml, hown, hts⟩ (x_reach l (hf (s_len S v)) (mk := fun _ => false) hSF hWF hQF hW hC hVa hQa ha_4 (hRg.hg v (by omega) hl9 r9 hro) (hRg.rsto (by omega) hl9 hro) (fun k hk z => by cases z)) (cwV 2 hts (lw_V q1527 q1529 qs44 q146 q1530) rfl rfl rfl (by decide +kernel) ⟨by simp only [mm_rm]; omega, by simp only [mm_rm]; omega⟩) (mm_pV hKK (mm_rc hKK hOS hWF rfl)) rfl rfl hl.1 rfl (lv_room (Nat.le_of_ble_eq_true rfl)) dX2_reachableFrom_17 ⟨Nat.le_of_ble_eq_true rfl, by simp only [mm_rm]; omega⟩) hS (mm_sM hS (fun q z => Or.inr (by rw [z]; exact hle_a_4))) (fun H_17 L_17 ha_4 hz_17 hq_17 hS => ?_)
    have hWF := hWF.keep hq_17 (fun q z => by rw [z]; exact hVa)
    have hQF := hQF.keep hq_17 (fun q z => by rw [z]; exact hQa)
    refine lv_aload_n hx hb dX2_reachableFrom_20 rfl (lv_at hl 0 rfl) ?_
    exact mm_aret (v := .ref a_4) hx hb hr rfl hlk hS (Nat.le_of_ble_eq_true rfl) (by omega) (Or.inr ⟨_, rfl⟩) (⟨a_4, rfl, by rw [show (fun j => mm_b ((tn S v).contains j)) = fun j => mm_b (mkU S (hf (s_len S v)) r9 (fun _ => false) j) by funext j; rw [tn_root hRg.hg hv9 hl9 hro]; rfl]; exact ha_4, hle_a_4⟩) dX2_reachableFrom_21
set_option maxRecDepth 100000 in
theorem x_rable (l : Launch) {G : mm_G} {P : mm_H} {H : Heap} {V Q : mm_H} {S : sp_S} {a : Nat} {nd vs tr og num : Nat → Nat} {e9 : Option Nat} (hSF : SF G V Q a S nd vs tr og num) (hWF : mm_le V (mm_h H)) (hQF : mm_le Q (mm_h H)) (hW : WF S) (hC : STC S) (hRg : RG S) (he9 : ∀ r, e9 = some r → r < 2 ^ 30) : Mt l yX2_reachable (ws_ yX2_reachable cX2_reachable 4 (some (.array .boolean))) 12 500 1 200 G P [.ref a, .int (oI e9)] H mm_0 (mm_r (fun b H1 => mm_ia G (mm_h H1) b 2 (s_nn S) (fun j => mm_b (rchE S e9 (s_nv S) j)) ∧ H.size ≤ b)) := by
  refine Mt.of (by decide) (Nat.le_of_ble_eq_true rfl) (fun p e s m below meth c ls hx hb hr hlk hml hown hnm hts hKK hsH hl hS => ?_)
  have hl : lv_has ls 4 [(0, .ref a), (1, .int (oI e9))] := hl
  obtain ⟨⟨vl, va, vcap, nl, na, ncap, vmc, nmc, hOS, hVL, hNLs⟩, hV, hD, hJ, hnum⟩ := id hSF
  have hnv := hW.nv
  have hnn := hW.nn
  have hcs := cB_le (s_nn S) (s_sto S)
  refine lv_aload_n hx hb dX2_reachable_0 rfl (lv_at hl 0 rfl) ?_
  refine mm_get (C := RX2) (T := TX2) (N := 3) (ci := 1) (v := .int (nI (s_nn S))) hx hb hts in_X2 hown hKK (mm_ob.rb hOS) hWF rfl 2 (by decide) (hts _ q650) (fun _ h9 => h9) rfl dX2_reachable_1 ?_
  have hs1 := hS.1
  refine mm_newa 2 .boolean rfl rfl (fun C z => by cases z) hx hb (hts _ q1578) hKK hS (N := (s_nn S)) (f := fun _ => .int 0) rfl (by omega) (by show _ * 1 ≤ _; omega) (by simp only [mm_rm]; omega) (by simp only [mm_rm]; omega) dX2_reachable_4 (fun a_4 H_4 ea_4 ha_4 hz_4 hq_4 hS => ?_)
  have ha_4 : mm_ia G (mm_h H_4) a_4 2 (s_nn S) (fun _ => 0) := ha_4
  have hWF0 := hWF
  have hQF0 := hQF
  have hWF := hWF.push hq_4
  have hQF := hQF.push hq_4
  have hle_a_4 : H.size ≤ a_4 := by rw [ea_4]; exact hs1
  have hVa : V a_4 = none := hWF0.new (Nat.le_of_eq ea_4.symm)
  have hQa : Q a_4 = none := hQF0.new (Nat.le_of_eq ea_4.symm)
  refine lv_astore_n (lv' := [(2, .ref a_4), (0, .ref a), (1, .int (oI e9))]) hx hb dX2_reachable_6 rfl hl (by decide) rfl (fun ls hl => ?_)
  refine lv_iconst (v := nI 0) hx hb dX2_reachable_7 (by decide) ?_
  refine lv_istore_n (lv' := [(3, .int (nI 0)), (2, .ref a_4), (0, .ref a), (1, .int (oI e9))]) hx hb dX2_reachable_8 rfl hl (by decide) rfl (fun ls hl => ?_)
  have lp_9 : ∀ (fu : Nat) (i : Nat) (H1 : Heap) (L : List Loc) (ls : Array Slot), s_nv S - i < fu → (i ≤ s_nv S) → lv_has ls 4 [(3, .int (nI i)), (0, .ref a), (1, .int (oI e9)), (2, .ref a_4)] → (mm_ia G (mm_h H1) a_4 2 (s_nn S) (fun j => mm_b (rchE S e9 i j))) → (mm_le V (mm_h H1)) → (mm_le Q (mm_h H1)) → va_S (mm_A mm_0 H) H H1 L → W p l e (mm_rm 12 500 1 200) s m ([.ref a, .int (oI e9)] : List Value).toArray below meth c H1 L (0 + 1) (0 + s_nn S) (MQ below (mm_Qc H mm_0 (mm_r (fun b H1 => mm_ia G (mm_h H1) b 2 (s_nn S) (fun j => mm_b (rchE S e9 (s_nv S) j)) ∧ H.size ≤ b))) ([.ref a, .int (oI e9)] : List Value).toArray s 1 200 (mm_A mm_0 H)) (F0 m 9 ls []) := by
    intro fu; induction fu with
    | zero => intro i H1 L ls hfu; exact absurd hfu (Nat.not_lt_zero _)
    | succ fu ih =>
      intro i H1 L ls hfu hi hl hAr hWF hQF hS
      have ih_9 := ih
      have hh3 := hf_le3 (s_len S i)
      refine lv_iload_n hx hb dX2_reachable_9 rfl (lv_at hl 0 rfl) ?_
      refine lv_aload_n hx hb dX2_reachable_10 rfl (lv_at hl 1 rfl) ?_
      refine mm_get (C := RX2) (T := TX2) (N := 3) (ci := 1) (v := .ref vl) hx hb hts in_X2 hown hKK (mm_ob.rb hOS) hWF rfl 0 (by decide) (hts _ q646) (fun _ h9 => h9) rfl dX2_reachable_11 ?_
      refine mm_rpu5 (va_runF (As := []) (rest := [.int (nI i)]) (hKK.K.1 15 _ rfl).2 ⟨hx, hb, hml, hown, hts⟩ (a_size l hVL hWF) (va_cwF 0 hts (lw_FF q664 q667 q669 q138 (lw_meth q671)) rfl rfl rfl (hKK.F.use 0 rfl) (by decide +kernel) ⟨Nat.le_of_ble_eq_true rfl, Nat.le_of_ble_eq_true rfl⟩) (mm_pV hKK (mm_rc hKK hVL.1 hWF rfl)) rfl rfl hl.1 rfl (lv_room (Nat.le_of_ble_eq_true rfl)) dX2_reachable_14 ⟨Nat.le_of_ble_eq_true rfl, by simp only [mm_rm]; omega⟩) hS (mm_s0 hS) (fun L_14 hS => ?_)
      refine mm_icmp_ge (tgt := 57) (by omega) (by omega) hx hb dX2_reachable_19 (by decide) (fun c_19 => ?_) (fun c_19 => ?_)
      · refine lv_aload_n hx hb dX2_reachable_57 rfl (lv_at hl 3 rfl) ?_
        exact mm_aret (v := .ref a_4) hx hb hr rfl hlk hS (Nat.le_of_ble_eq_true rfl) (by omega) (Or.inr ⟨_, rfl⟩) (⟨a_4, rfl, by rw [show s_nv S = i by omega]; exact hAr, hle_a_4⟩) dX2_reachable_58
      · refine lv_iload_n hx hb dX2_reachable_22 rfl (lv_at hl 0 rfl) ?_
        refine lv_iload_n hx hb dX2_reachable_23 rfl (lv_at hl 2 rfl) ?_
        refine lv_icmp_eq (tgt := 51) hx hb dX2_reachable_24 (by decide) (fun c_24 => ?_) (fun c_24 => ?_)
        · have heq9 : e9 = some i := (oI_iff (by omega) he9).mp c_24
          refine lv_iinc (v := nI (i + 1)) (lv' := [(3, .int (nI (i + 1))), (0, .ref a), (1, .int (oI e9)), (2, .ref a_4)]) hx hb dX2_reachable_51 hl (k := 0) rfl (nI_add _ _) (by decide) rfl (fun ls hl => ?_)
          refine lv_goto (tgt := 9) hx hb dX2_reachable_54 (by decide) ?_
          exact ih_9 (i + 1) H1 _ _ (by omega) (by omega) (lv_sub hl [0, 1, 2, 3] rfl) (by rw [rchE_no (.inl heq9)]; exact hAr) hWF hQF hS
        · have hne9 : e9 ≠ some i := fun z => c_24 ((oI_iff (by omega) he9).mpr z)
          refine lv_aload_n hx hb dX2_reachable_27 rfl (lv_at hl 1 rfl) ?_
          refine lv_iload_n hx hb dX2_reachable_28 rfl (lv_at hl 0 rfl) ?_
          obtain ⟨hv_6, ⟨rt_6, ht_6, hrt_6⟩, hog_6⟩ := hV i (by omega)
          refine mm_rpu (va_runV (As := [.int (nI i)]) (rest := []) ⟨hx, hb, hml, hown, hts⟩ (x_ver l hSF hWF hQF hW (by omega)) (cwV 1 hts (lw_V q1086 q1087 q1088 q146 q1089) rfl rfl rfl (by decide +kernel) ⟨Nat.le_of_ble_eq_true rfl, Nat.le_of_ble_eq_true rfl⟩) (mm_pV hKK (mm_rc hKK hOS hWF rfl)) rfl rfl hl.1 rfl (lv_room (Nat.le_of_ble_eq_true rfl)) dX2_reachable_29 ⟨Nat.le_of_ble_eq_true rfl, by simp only [mm_rm]; omega⟩) hS (mm_s0 hS) (fun L_29 hS => ?_)
          refine mm_getN (C := RX7) (T := TX7) (N := 6) (ci := 2) (v := .int (mm_b (s_rel S i))) hx hb hts in_X7 hown hKK (mm_ob.rb hv_6) hWF rfl 5 (by decide) q827 (fun _ h9 => h9) rfl dX2_reachable_32 ?_
          refine mm_ifneB (tgt := 51) hx hb dX2_reachable_35 (by decide) (fun c_35 => ?_) (fun c_35 => ?_)
          · refine lv_iinc (v := nI (i + 1)) (lv' := [(3, .int (nI (i + 1))), (0, .ref a), (1, .int (oI e9)), (2, .ref a_4)]) hx hb dX2_reachable_51 hl (k := 0) rfl (nI_add _ _) (by decide) rfl (fun ls hl => ?_)
            refine lv_goto (tgt := 9) hx hb dX2_reachable_54 (by decide) ?_
            exact ih_9 (i + 1) H1 _ _ (by omega) (by omega) (lv_sub hl [0, 1, 2, 3] rfl) (by rw [rchE_no (.inr c_35)]; exact hAr) hWF hQF hS
          · refine lv_aload_n hx hb dX2_reachable_38 rfl (lv_at hl 1 rfl) ?_
            refine lv_aload_n hx hb dX2_reachable_39 rfl (lv_at hl 1 rfl) ?_
            refine lv_iload_n hx hb dX2_reachable_40 rfl (lv_at hl 0 rfl) ?_
            refine mm_rpu (va_runV (As := [.int (nI i)]) (rest := [.ref a]) ⟨hx, hb, hml, hown, hts⟩ (x_tree l hSF hWF hQF hW (by omega)) (cwV 1 hts (lw_V q1526 q1083 q1084 q146 q1085) rfl rfl rfl (by decide +kernel) ⟨Nat.le_of_ble_eq_true rfl, Nat.le_of_ble_eq_true rfl⟩) (mm_pV hKK (mm_rc hKK hOS hWF rfl)) rfl rfl hl.1 rfl (lv_room (Nat.le_of_ble_eq_true rfl)) dX2_reachable_41 ⟨Nat.le_of_ble_eq_true rfl, by simp only [mm_rm]; omega⟩) hS (mm_s0 hS) (fun L_41 hS => ?_)
            refine mm_getN (C := RX6) (T := TX6) (N := 3) (ci := 3) (v := va_rf rt_6) hx hb hts in_X6 hown hKK (mm_ob.rb ht_6) hQF rfl 0 (by decide) q787 (fun _ h9 => h9) rfl dX2_reachable_44 ?_
            have hrt9 := hrt_6 (c_35)
            rcases hro : s_root S i with _ | r9
            · refine mm_topv (y := .null) (by rw [hrt9, hro]; rfl) ?_
              refine lv_aload_n hx hb dX2_reachable_47 rfl (lv_at hl 3 rfl) ?_
              refine mm_rv (va_runV (As := [.null, .ref a_4]) (rest := []) ⟨hx, hb, hml, hown, hts⟩ (x_reach0 l hSF hWF hQF hW) (cwV 2 hts (lw_V q1527 q1529 qs44 q146 q1530) rfl rfl rfl (by decide +kernel) ⟨Nat.le_of_ble_eq_true rfl, Nat.le_of_ble_eq_true rfl⟩) (mm_pV hKK (mm_rc hKK hOS hWF rfl)) rfl rfl hl.1 rfl (lv_room (Nat.le_of_ble_eq_true rfl)) dX2_reachable_48 ⟨Nat.le_of_ble_eq_true rfl, by simp only [mm_rm]; omega⟩) hS (mm_s0 hS) (fun H_48 L_48 hB_48 _ _ hS => ?_)
              subst hB_48
              refine lv_iinc (v := nI (i + 1)) (lv' := [(3, .int (nI (i + 1))), (0, .ref a), (1, .int (oI e9)), (2, .ref a_4)]) hx hb dX2_reachable_51 hl (k := 0) rfl (nI_add _ _) (by decide) rfl (fun ls hl => ?_)
              refine lv_goto (tgt := 9) hx hb dX2_reachable_54 (by decide) ?_
              exact ih_9 (i + 1) H1 _ _ (by omega) (by omega) (lv_sub hl [0, 1, 2, 3] rfl) (by rw [rchE_go hne9 c_35, show (fun k => rchE S e9 i k || (tn S i).contains k) = rchE S e9 i by funext j; rw [tn_none hro]; exact Bool.or_false _]; exact hAr) hWF hQF hS
            · refine mm_topv (y := .ref (nd r9)) (by rw [hrt9, hro]; rfl) ?_
              refine lv_aload_n hx hb dX2_reachable_47 rfl (lv_at hl 3 rfl) ?_
              refine mm_rv (va_runV (As := [.ref (nd r9), .ref a_4]) (rest := []) ⟨hx, hb, hml, hown, hts⟩ (x_reach l (hf (s_len S i)) (mk := rchE S e9 i) hSF hWF hQF hW hC hVa hQa hAr (hRg.hg i (by omega) c_35 r9 hro) (hRg.rsto (by omega) c_35 hro) (rchE_CL hRg.hg (by omega))) (cwV 2 hts (lw_V q1527 q1529 qs44 q146 q1530) rfl rfl rfl (by decide +kernel) ⟨by simp only [mm_rm]; omega, by simp only [mm_rm]; omega⟩) (mm_pV hKK (mm_rc hKK hOS hWF rfl)) rfl rfl hl.1 rfl (lv_room (Nat.le_of_ble_eq_true rfl)) dX2_reachable_48 ⟨Nat.le_of_ble_eq_true rfl, by simp only [mm_rm]; omega⟩) hS (mm_sM hS (fun q z => Or.inr (by rw [z]; exact hle_a_4))) (fun H_48 L_48 hAr hz_48 hq_48 hS => ?_)
              have hWF := hWF.keep hq_48 (fun q z => by rw [z]; exact hVa)
              have hQF := hQF.keep hq_48 (fun q z => by rw [z]; exact hQa)
              refine lv_iinc (v := nI (i + 1)) (lv' := [(3, .int (nI (i + 1))), (0, .ref a), (1, .int (oI e9)), (2, .ref a_4)]) hx hb dX2_reachable_51 hl (k := 0) rfl (nI_add _ _) (by decide) rfl (fun ls hl => ?_)
              refine lv_goto (tgt := 9) hx hb dX2_reachable_54 (by decide) ?_
              exact ih_9 (i + 1) H_48 _ _ (by omega) (by omega) (lv_sub hl [0, 1, 2, 3] rfl) (by rw [rchE_go hne9 c_35, tn_root hRg.hg (show i < s_nv S by omega) c_35 hro]; exact hAr) hWF hQF hS
  exact lp_9 _ 0 H_4 _ _ (Nat.lt_succ_self _) (by omega) (lv_sub hl [0, 2, 3, 1] rfl) ha_4 hWF hQF hS
set_option maxRecDepth 100000 in
theorem x_garb (l : Launch) {G : mm_G} {P : mm_H} {H : Heap} {V Q : mm_H} {S : sp_S} {a : Nat} {nd vs tr og num : Nat → Nat} (hSF : SF G V Q a S nd vs tr og num) (hWF : mm_le V (mm_h H)) (hQF : mm_le Q (mm_h H)) (hW : WF S) (hC : STC S) (hRg : RG S) : Mt l yX2_garbage (ws_ yX2_garbage cX2_garbage 1 (some .int)) 14 560 1 200 G P [.ref a] H mm_0 (mm_i (nI (s_garb S)) (fun _ => True)) := by
  refine Mt.of (by decide) (Nat.le_of_ble_eq_true rfl) (fun p e s m below meth c ls hx hb hr hlk hml hown hnm hts hKK hsH hl hS => ?_)
  have hl : lv_has ls 1 [(0, .ref a)] := hl
  obtain ⟨⟨vl, va, vcap, nl, na, ncap, vmc, nmc, hOS, hVL, hNLs⟩, hV, hD, hJ, hnum⟩ := id hSF
  have hnv := hW.nv
  have hnn := hW.nn
  have hcs := cB_le (s_nn S) (s_sto S)
  have hge := garb_eq hRg
  have hrn : rchE S none (s_nv S) = rch S := by funext k; exact rchE_none
  refine lv_aload_n hx hb dX2_garbage_0 rfl (lv_at hl 0 rfl) ?_
  refine mm_get (C := RX2) (T := TX2) (N := 3) (ci := 1) (v := .ref nl) hx hb hts in_X2 hown hKK (mm_ob.rb hOS) hWF rfl 1 (by decide) (hts _ q648) (fun _ h9 => h9) rfl dX2_garbage_1 ?_
  refine mm_rpu5 (va_runF (As := []) (rest := []) (hKK.K.1 15 _ rfl).2 ⟨hx, hb, hml, hown, hts⟩ (a_size l hNLs hWF) (va_cwF 0 hts (lw_FF q664 q667 q669 q138 (lw_meth q671)) rfl rfl rfl (hKK.F.use 0 rfl) (by decide +kernel) ⟨Nat.le_of_ble_eq_true rfl, Nat.le_of_ble_eq_true rfl⟩) (mm_pV hKK (mm_rc hKK hNLs.1 hWF rfl)) rfl rfl hl.1 rfl (lv_room (Nat.le_of_ble_eq_true rfl)) dX2_garbage_4 ⟨Nat.le_of_ble_eq_true rfl, Nat.le_of_ble_eq_true rfl⟩) hS (mm_s0 hS) (fun L_4 hS => ?_)
  refine lv_aload_n hx hb dX2_garbage_9 rfl (lv_at hl 0 rfl) ?_
  refine lv_iconst (v := (-1)) hx hb dX2_garbage_10 (by decide) ?_
  refine mm_rr (va_runV (As := [.int (oI none)]) (rest := [.int (nI (cB (s_nn S) (s_sto S)))]) ⟨hx, hb, hml, hown, hts⟩ (x_rable l (e9 := none) hSF hWF hQF hW hC hRg (fun r z => by cases z)) (cwV 1 hts (lw_V q1522 q1523 q1524 q146 q1525) rfl rfl rfl (by decide +kernel) ⟨Nat.le_of_ble_eq_true rfl, Nat.le_of_ble_eq_true rfl⟩) (mm_pV hKK (mm_rc hKK hOS hWF rfl)) rfl rfl hl.1 rfl (lv_room (Nat.le_of_ble_eq_true rfl)) dX2_garbage_11 ⟨Nat.le_of_ble_eq_true rfl, Nat.le_of_ble_eq_true rfl⟩) hS (mm_s0 hS) (fun b_11 H_11 L_11 hB_11 hz_11 hq_11 hS => ?_)
  obtain ⟨hA_11, hb_11⟩ := hB_11
  have hWF := hWF.keep hq_11 (fun q z => z.elim)
  have hQF := hQF.keep hq_11 (fun q z => z.elim)
  have hcb_14 := cB_le (s_nn S) (rchE S none (s_nv S))
  refine mm_rpu (va_runS (As := [.ref b_11]) (rest := [.int (nI (cB (s_nn S) (s_sto S)))]) ⟨hx, hb, hml, hown, hts⟩ (x_count l (mk := rchE S none (s_nv S)) hA_11 mm_le.rf (by omega)) (va_cwS 1 hts (lw_S q1540 q1541 q146 q1542) rfl rfl rfl (by decide +kernel) ⟨Nat.le_of_ble_eq_true rfl, Nat.le_of_ble_eq_true rfl⟩) (mm_pS hKK) rfl rfl hl.1 rfl (lv_room (Nat.le_of_ble_eq_true rfl)) dX2_garbage_14 ⟨Nat.le_of_ble_eq_true rfl, Nat.le_of_ble_eq_true rfl⟩) hS (mm_s0 hS) (fun L_14 hS => ?_)
  refine mm_top (y := nI (cB (s_nn S) (rch S))) (by rw [hrn]) ?_
  refine mm_isub (by omega) hx hb dX2_garbage_17 ?_
  exact mm_iret (v := nI ((cB (s_nn S) (s_sto S)) - (cB (s_nn S) (rch S)))) hx hb hr hlk hS (Nat.le_of_ble_eq_true rfl) (Nat.le_of_ble_eq_true rfl) (⟨by rw [hge.2], trivial⟩) dX2_garbage_18
