/-! the twin: sharing, garbagePart (printed by tools/tw26.py) -/
theorem sumN_add {f g : Nat → Nat} : ∀ {n : Nat}, sumN n (fun k => f k + g k) = sumN n f + sumN n g := by
  intro n
  induction n with
  | zero => rfl
  | succ n ih => rw [sumN_succ, sumN_succ, sumN_succ, ih]; omega
theorem sumN_z {f : Nat → Nat} (h : ∀ k, f k = 0) : ∀ {n : Nat}, sumN n f = 0 := by
  intro n
  induction n with
  | zero => rfl
  | succ n ih => rw [sumN_succ, ih, h]
theorem sumN_one (a : Nat) : ∀ (n : Nat), sumN n (fun k => if k = a then 1 else 0) = if a < n then 1 else 0 := by
  intro n
  induction n with
  | zero => rfl
  | succ n ih =>
    rw [sumN_succ, ih]
    by_cases h1 : a < n
    · rw [if_pos h1, if_pos (show a < n + 1 by omega), if_neg (show ¬ n = a by omega)]
    · by_cases h2 : n = a
      · rw [if_neg h1, if_pos (show a < n + 1 by omega), if_pos h2]
      · rw [if_neg h1, if_neg (show ¬ a < n + 1 by omega), if_neg h2]
theorem cnt_cons (k a : Nat) (l : List Nat) : List.count k (a :: l) = List.count k l + (if k = a then 1 else 0) := by
  rw [List.count_cons]
  by_cases z : k = a
  · subst z; simp
  · rw [if_neg z, if_neg (by rw [beq_iff_eq]; exact fun h => z h.symm)]
theorem sumN_cnt : ∀ (l : List Nat) (n : Nat), (∀ a, a ∈ l → a < n) → sumN n (fun k => List.count k l) = l.length := by
  intro l
  induction l with
  | nil => intro n _; exact sumN_z (fun k => rfl)
  | cons a l ih =>
    intro n h
    rw [sumN_cg (g := fun k => List.count k l + (if k = a then 1 else 0)) (fun k _ => cnt_cons k a l)]
    rw [sumN_add, ih n (fun b hb => h b (List.mem_cons_of_mem _ hb)), sumN_one, if_pos (h a (List.mem_cons_self ..)), List.length_cons]
theorem sumN_cntle : ∀ (l : List Nat) (n : Nat), sumN n (fun k => List.count k l) ≤ l.length := by
  intro l
  induction l with
  | nil => intro n; exact Nat.le_of_eq (sumN_z (fun k => rfl))
  | cons a l ih =>
    intro n
    rw [sumN_cg (g := fun k => List.count k l + (if k = a then 1 else 0)) (fun k _ => cnt_cons k a l)]
    have := ih n
    rw [sumN_add, sumN_one, List.length_cons]; split <;> omega
theorem sum_rcN {S : sp_S} (hG : HG S) (hW : WF S) (m : Nat) : ∀ n, n ≤ s_nv S → sumN m (rcN S n) ≤ 21 * n := by
  intro n
  induction n with
  | zero => intro _; exact Nat.le_of_eq (sumN_z (fun k => rfl))
  | succ n ih =>
    intro h
    rw [sumN_cg (g := fun k => rcN S n k + (if s_rel S n = true then 0 else List.count k (tn S n))) (fun k _ => rcN_succ S n k), sumN_add]
    have h1 := ih (by omega)
    cases hl : s_rel S n with
    | true => rw [sumN_z (fun k => if_pos rfl)]; omega
    | false =>
      have h2 := hG.tn_len hW (show n < s_nv S by omega) hl
      have h3 := sumN_cntle (tn S n) m
      rw [sumN_cg (g := fun k => List.count k (tn S n)) (fun k _ => if_neg (by decide))]; omega
set_option maxRecDepth 100000 in
theorem t_sharing (l : Launch) {G : mm_G} {P : mm_H} {H : Heap} {x : Nat} {ad : Nat → Nat} {I : Nat → Int32} {F : Nat → Nat → Int32} {S : sp_S} (hT : TW G x ad I F H) (hR : TR (F 0) S) (hW : WF S) (hG : HG S) : Mt l yX8_sharing (ws_ yX8_sharing cX8_sharing 4 (some .double)) 9 500 0 0 G P [.ref x] H (tw_M x ad) (fun r H2 => r = some (.double (shV (sumN (s_nn S) (rcN S (s_nv S))) (cB (s_nn S) (rch S)))) ∧ ∃ F2, TW G x ad (upd I 6 (nI 0)) F2 H2 ∧ eqx [11] F F2) := by
  refine Mt.of (by decide) (Nat.le_of_ble_eq_true rfl) (fun p e s m below meth c ls hx hb hr hlk hml hown hnm hts hKK hsH hl hS => ?_)
  have hl : lv_has ls 4 [(0, .ref x)] := hl
  have hR0 := hR
  have hMx : mm_A (tw_M x ad) H x := Or.inl (Or.inl rfl)
  have hMa : ∀ j, tw_isA j = true → mm_A (tw_M x ad) H (ad j) := fun j hj => Or.inl (Or.inr ⟨j, hj, rfl⟩)
  have hnv := hW.nv
  have hnn := hW.nn
  refine lv_aload_n hx hb dX8_sharing_0 rfl (lv_at hl 0 rfl) ?_
  refine lv_iconst (v := nI 0) hx hb dX8_sharing_1 (by decide) ?_
  refine tw_put 6 hx hb hts hown hKK hT hS (hMx) (by decide) rfl (by decide) ⟨rfl, rfl⟩ (hts _ q2504) dX8_sharing_2 (fun H_2 L_2 hT hz_2 hq_2 hS => ?_)
  refine lv_aload_n hx hb dX8_sharing_5 rfl (lv_at hl 0 rfl) ?_
  refine mm_rv (va_runV (As := []) (rest := []) ⟨hx, hb, hml, hown, hts⟩ (t_reachAll l hT hR hW hG) (cwV 0 hts (lw_V q2805 q2807 qs104 q164 q2808) rfl rfl rfl (by decide +kernel) ⟨Nat.le_of_ble_eq_true rfl, Nat.le_of_ble_eq_true rfl⟩) (mm_pV hKK (mm_rc hKK hT.2.1 mm_le.rf rfl)) rfl rfl hl.1 rfl (lv_room (Nat.le_of_ble_eq_true rfl)) dX8_sharing_6 ⟨Nat.le_of_ble_eq_true rfl, Nat.le_of_ble_eq_true rfl⟩) hS (mm_sS hS) (fun H_6 L_6 hB_6 hz_6 hq_6 hS => ?_)
  obtain ⟨F_6, hT, he_6, h11_6⟩ := hB_6
  have hR := TRx he_6 (by decide) hR
  refine lv_iconst (v := nI 0) hx hb dX8_sharing_9 (by decide) ?_
  refine lv_istore_n (lv' := [(1, .int (nI 0)), (0, .ref x)]) hx hb dX8_sharing_10 rfl hl (by decide) rfl (fun ls hl => ?_)
  refine lv_iconst (v := nI 0) hx hb dX8_sharing_11 (by decide) ?_
  refine lv_istore_n (lv' := [(2, .int (nI 0)), (1, .int (nI 0)), (0, .ref x)]) hx hb dX8_sharing_12 rfl hl (by decide) rfl (fun ls hl => ?_)
  refine lv_iconst (v := nI 0) hx hb dX8_sharing_13 (by decide) ?_
  refine lv_istore_n (lv' := [(3, .int (nI 0)), (2, .int (nI 0)), (1, .int (nI 0)), (0, .ref x)]) hx hb dX8_sharing_14 rfl hl (by decide) rfl (fun ls hl => ?_)
  have lp_15 : ∀ (fu : Nat) (i : Nat)  (L : List Loc) (ls : Array Slot), s_nn S - i < fu → (i ≤ s_nn S) → lv_has ls 4 [(1, .int (nI (sumN i (rcN S (s_nv S))))), (2, .int (nI (cB i (rch S)))), (3, .int (nI i)), (0, .ref x)] → va_S (mm_A (tw_M x ad) H) H H_6 L → W p l e (mm_rm 9 500 0 0) s m ([.ref x] : List Value).toArray below meth c H_6 L 0 0 (MQ below (mm_Qc H (tw_M x ad) (fun r H2 => r = some (.double (shV (sumN (s_nn S) (rcN S (s_nv S))) (cB (s_nn S) (rch S)))) ∧ ∃ F2, TW G x ad (upd I 6 (nI 0)) F2 H2 ∧ eqx [11] F F2)) ([.ref x] : List Value).toArray s 0 0 (mm_A (tw_M x ad) H)) (F0 m 15 ls []) := by
    intro fu; induction fu with
    | zero => intro i L ls hfu; exact absurd hfu (Nat.not_lt_zero _)
    | succ fu ih =>
      intro i L ls hfu hi hl  hS
      have ih_15 := ih
      have hcb := cB_le i (rch S)
      have hrl := rcN_le hG hW i (s_nv S) (Nat.le_refl _)
      have hsl := sum_rcN hG hW i (s_nv S) (Nat.le_refl _)
      refine lv_iload_n hx hb dX8_sharing_15 rfl (lv_at hl 2 rfl) ?_
      refine lv_aload_n hx hb dX8_sharing_16 rfl (lv_at hl 3 rfl) ?_
      refine tw_geta 0 hx hb hts hown hKK hT rfl rfl (hts _ q2498) dX8_sharing_17 ?_
      refine lv_iconst (v := nI 1) hx hb dX8_sharing_20 (by decide) ?_
      refine mm_iald (k := 1) hx hb hKK (hT.2.2 0 rfl) mm_le.rf (by show _ < 4210; omega) (by decide) dX8_sharing_21 ?_
      refine mm_top (y := nI (s_nn S)) (hR.nn) ?_
      refine mm_icmp_ge (tgt := 60) (by omega) (by omega) hx hb dX8_sharing_22 (by decide) (fun c_22 => ?_) (fun c_22 => ?_)
      · refine lv_iload_n hx hb dX8_sharing_60 rfl (lv_at hl 1 rfl) ?_
        refine mm_if_ne (tgt := 68) (by omega) hx hb dX8_sharing_61 (by decide) (fun c_61 => ?_) (fun c_61 => ?_)
        · refine lv_iload_n hx hb dX8_sharing_68 rfl (lv_at hl 0 rfl) ?_
          refine lv_i2d hx hb dX8_sharing_69 ?_
          refine lv_iload_n hx hb dX8_sharing_70 rfl (lv_at hl 1 rfl) ?_
          refine lv_i2d hx hb dX8_sharing_71 ?_
          refine lv_ddiv hx hb dX8_sharing_72 (mm_ddivN (by omega) (by omega) (by omega)) ?_
          exact mm_dret (v := FP.ddiv (FP.i2d (nI (sumN i (rcN S (s_nv S))))) (FP.i2d (nI (cB i (rch S))))) hx hb hr hlk hS (Nat.le_of_ble_eq_true rfl) (Nat.le_of_ble_eq_true rfl) (⟨by rw [show shV (sumN (s_nn S) (rcN S (s_nv S))) (cB (s_nn S) (rch S)) = FP.ddiv (FP.i2d (nI (sumN (s_nn S) (rcN S (s_nv S))))) (FP.i2d (nI (cB (s_nn S) (rch S)))) from if_neg (by rw [show s_nn S = i by omega]; exact c_61), show s_nn S = i by omega], F_6, hT, he_6⟩) dX8_sharing_73
        · refine lv_dconst0 hx hb dX8_sharing_64 ?_
          refine lv_goto (tgt := 73) hx hb dX8_sharing_65 (by decide) ?_
          exact mm_dret (v := FP.dconst0) hx hb hr hlk hS (Nat.le_of_ble_eq_true rfl) (Nat.le_of_ble_eq_true rfl) (⟨by rw [show shV (sumN (s_nn S) (rcN S (s_nv S))) (cB (s_nn S) (rch S)) = FP.dconst0 from if_pos (by rw [show s_nn S = i by omega]; exact c_61)], F_6, hT, he_6⟩) dX8_sharing_73
      · refine lv_iload_n hx hb dX8_sharing_25 rfl (lv_at hl 0 rfl) ?_
        refine lv_aload_n hx hb dX8_sharing_26 rfl (lv_at hl 3 rfl) ?_
        refine tw_geta 11 hx hb hts hown hKK hT rfl rfl (hts _ q2509) dX8_sharing_27 ?_
        refine lv_iload_n hx hb dX8_sharing_30 rfl (lv_at hl 2 rfl) ?_
        refine mm_iald (k := i) hx hb hKK (hT.2.2 11 rfl) mm_le.rf (by show _ < 200; omega) (by decide) dX8_sharing_31 ?_
        refine mm_top (y := nI (rcN S (s_nv S) i)) (h11_6 _ (by omega)) ?_
        refine mm_iadd hx hb dX8_sharing_32 ?_
        refine mm_top (y := nI (sumN (i + 1) (rcN S (s_nv S)))) (rfl) ?_
        refine lv_istore_n (lv' := [(1, .int (nI (sumN (i + 1) (rcN S (s_nv S))))), (2, .int (nI (cB i (rch S)))), (3, .int (nI i)), (0, .ref x)]) hx hb dX8_sharing_33 rfl hl (by decide) rfl (fun ls hl => ?_)
        refine lv_iload_n hx hb dX8_sharing_34 rfl (lv_at hl 1 rfl) ?_
        refine lv_aload_n hx hb dX8_sharing_35 rfl (lv_at hl 3 rfl) ?_
        refine tw_geta 11 hx hb hts hown hKK hT rfl rfl (hts _ q2509) dX8_sharing_36 ?_
        refine lv_iload_n hx hb dX8_sharing_39 rfl (lv_at hl 2 rfl) ?_
        refine mm_iald (k := i) hx hb hKK (hT.2.2 11 rfl) mm_le.rf (by show _ < 200; omega) (by decide) dX8_sharing_40 ?_
        refine mm_top (y := nI (rcN S (s_nv S) i)) (h11_6 _ (by omega)) ?_
        refine mm_if_le (tgt := 48) (by omega) hx hb dX8_sharing_41 (by decide) (fun c_41 => ?_) (fun c_41 => ?_)
        · have hrc : rch S i = false := by cases z : rch S i with | false => rfl | true => have := (rch_pos i).mpr z; omega
          refine lv_iconst (v := nI 0) hx hb dX8_sharing_48 (by decide) ?_
          refine mm_top (y := mm_b false) rfl ?_
          refine mm_rpu (va_runS (As := [.int (mm_b false)]) (rest := [.int (nI (cB i (rch S)))]) ⟨hx, hb, hml, hown, hts⟩ (t_one l ) (va_cwS 1 hts (lw_S q2467 q2468 q164 q2469) rfl rfl rfl (by decide +kernel) ⟨Nat.le_of_ble_eq_true rfl, Nat.le_of_ble_eq_true rfl⟩) (mm_pS hKK) rfl rfl hl.1 rfl (lv_room (Nat.le_of_ble_eq_true rfl)) dX8_sharing_49 ⟨Nat.le_of_ble_eq_true rfl, Nat.le_of_ble_eq_true rfl⟩) hS (mm_s0 hS) (fun L_49 hS => ?_)
          refine lv_iadd hx hb dX8_sharing_52 ?_
          refine mm_top (mm_iB _ _) ?_
          refine mm_top (y := nI (cB (i + 1) (rch S))) (by rw [cB_succ, hrc]; first | done | rfl) ?_
          refine lv_istore_n (lv' := [(2, .int (nI (cB (i + 1) (rch S)))), (1, .int (nI (sumN (i + 1) (rcN S (s_nv S))))), (3, .int (nI i)), (0, .ref x)]) hx hb dX8_sharing_53 rfl hl (by decide) rfl (fun ls hl => ?_)
          refine lv_iinc (v := nI (i + 1)) (lv' := [(3, .int (nI (i + 1))), (2, .int (nI (cB (i + 1) (rch S)))), (1, .int (nI (sumN (i + 1) (rcN S (s_nv S))))), (0, .ref x)]) hx hb dX8_sharing_54 hl (k := 2) rfl (nI_add _ _) (by decide) rfl (fun ls hl => ?_)
          refine lv_goto (tgt := 15) hx hb dX8_sharing_57 (by decide) ?_
          exact ih_15 (i + 1) _ _ (by omega) (by omega) (lv_sub hl [2, 1, 0, 3] rfl)  hS
        · have hrc : rch S i = true := (rch_pos i).mp (by omega)
          refine lv_iconst (v := nI 1) hx hb dX8_sharing_44 (by decide) ?_
          refine mm_top (y := mm_b true) rfl ?_
          refine lv_goto (tgt := 49) hx hb dX8_sharing_45 (by decide) ?_
          refine mm_rpu (va_runS (As := [.int (mm_b true)]) (rest := [.int (nI (cB i (rch S)))]) ⟨hx, hb, hml, hown, hts⟩ (t_one l ) (va_cwS 1 hts (lw_S q2467 q2468 q164 q2469) rfl rfl rfl (by decide +kernel) ⟨Nat.le_of_ble_eq_true rfl, Nat.le_of_ble_eq_true rfl⟩) (mm_pS hKK) rfl rfl hl.1 rfl (lv_room (Nat.le_of_ble_eq_true rfl)) dX8_sharing_49 ⟨Nat.le_of_ble_eq_true rfl, Nat.le_of_ble_eq_true rfl⟩) hS (mm_s0 hS) (fun L_49 hS => ?_)
          refine lv_iadd hx hb dX8_sharing_52 ?_
          refine mm_top (mm_iB _ _) ?_
          refine mm_top (y := nI (cB (i + 1) (rch S))) (by rw [cB_succ, hrc]; first | done | rfl) ?_
          refine lv_istore_n (lv' := [(2, .int (nI (cB (i + 1) (rch S)))), (1, .int (nI (sumN (i + 1) (rcN S (s_nv S))))), (3, .int (nI i)), (0, .ref x)]) hx hb dX8_sharing_53 rfl hl (by decide) rfl (fun ls hl => ?_)
          refine lv_iinc (v := nI (i + 1)) (lv' := [(3, .int (nI (i + 1))), (2, .int (nI (cB (i + 1) (rch S)))), (1, .int (nI (sumN (i + 1) (rcN S (s_nv S))))), (0, .ref x)]) hx hb dX8_sharing_54 hl (k := 2) rfl (nI_add _ _) (by decide) rfl (fun ls hl => ?_)
          refine lv_goto (tgt := 15) hx hb dX8_sharing_57 (by decide) ?_
          exact ih_15 (i + 1) _ _ (by omega) (by omega) (lv_sub hl [2, 1, 0, 3] rfl)  hS
  exact lp_15 _ 0 _ _ (Nat.lt_succ_self _) (by omega) (lv_sub hl [2, 1, 0, 3] rfl)  hS
set_option maxRecDepth 100000 in
theorem t_garbagePart (l : Launch) {G : mm_G} {P : mm_H} {H : Heap} {x : Nat} {ad : Nat → Nat} {I : Nat → Int32} {F : Nat → Nat → Int32} {S : sp_S} (hT : TW G x ad I F H) (hR : TR (F 0) S) (hW : WF S) (hG : HG S) : Mt l yX8_garbagePart (ws_ yX8_garbagePart cX8_garbagePart 3 (some .float)) 9 500 0 0 G P [.ref x] H (tw_M x ad) (fun r H2 => r = some (.float (gpV (s_garb S) (cB (s_nn S) (s_sto S)))) ∧ ∃ F2, TW G x ad (upd I 6 (nI 0)) F2 H2 ∧ eqx [11] F F2) := by
  refine Mt.of (by decide) (Nat.le_of_ble_eq_true rfl) (fun p e s m below meth c ls hx hb hr hlk hml hown hnm hts hKK hsH hl hS => ?_)
  have hl : lv_has ls 3 [(0, .ref x)] := hl
  have hR0 := hR
  have hMx : mm_A (tw_M x ad) H x := Or.inl (Or.inl rfl)
  have hMa : ∀ j, tw_isA j = true → mm_A (tw_M x ad) H (ad j) := fun j hj => Or.inl (Or.inr ⟨j, hj, rfl⟩)
  have hnv := hW.nv
  have hnn := hW.nn
  have hgb : s_garb S ≤ s_nn S := cB_le _ _
  have hcb := cB_le (s_nn S) (s_sto S)
  refine lv_aload_n hx hb dX8_garbagePart_0 rfl (lv_at hl 0 rfl) ?_
  refine lv_iconst (v := nI 0) hx hb dX8_garbagePart_1 (by decide) ?_
  refine tw_put 6 hx hb hts hown hKK hT hS (hMx) (by decide) rfl (by decide) ⟨rfl, rfl⟩ (hts _ q2504) dX8_garbagePart_2 (fun H_2 L_2 hT hz_2 hq_2 hS => ?_)
  refine lv_aload_n hx hb dX8_garbagePart_5 rfl (lv_at hl 0 rfl) ?_
  refine mm_ri (va_runV (As := []) (rest := []) ⟨hx, hb, hml, hown, hts⟩ (t_countGarbage l hT hR hW hG) (cwV 0 hts (lw_V q2801 q2803 qs103 q164 q2804) rfl rfl rfl (by decide +kernel) ⟨Nat.le_of_ble_eq_true rfl, Nat.le_of_ble_eq_true rfl⟩) (mm_pV hKK (mm_rc hKK hT.2.1 mm_le.rf rfl)) rfl rfl hl.1 rfl (lv_room (Nat.le_of_ble_eq_true rfl)) dX8_garbagePart_6 ⟨Nat.le_of_ble_eq_true rfl, Nat.le_of_ble_eq_true rfl⟩) hS (mm_sS hS) (fun H_6 L_6 hB_6 hz_6 hq_6 hS => ?_)
  obtain ⟨F_6, hT, he_6, h11_6⟩ := hB_6
  have hR := TRx he_6 (by decide) hR
  refine lv_istore_n (lv' := [(1, .int (nI (s_garb S))), (0, .ref x)]) hx hb dX8_garbagePart_9 rfl hl (by decide) rfl (fun ls hl => ?_)
  refine lv_aload_n hx hb dX8_garbagePart_10 rfl (lv_at hl 1 rfl) ?_
  refine mm_rpu (va_runV (As := []) (rest := []) ⟨hx, hb, hml, hown, hts⟩ (t_countStored l hT hR hW) (cwV 0 hts (lw_V q2913 q2915 qs115 q164 q2916) rfl rfl rfl (by decide +kernel) ⟨Nat.le_of_ble_eq_true rfl, Nat.le_of_ble_eq_true rfl⟩) (mm_pV hKK (mm_rc hKK hT.2.1 mm_le.rf rfl)) rfl rfl hl.1 rfl (lv_room (Nat.le_of_ble_eq_true rfl)) dX8_garbagePart_11 ⟨Nat.le_of_ble_eq_true rfl, Nat.le_of_ble_eq_true rfl⟩) hS (mm_s0 hS) (fun L_11 hS => ?_)
  refine lv_istore_n (lv' := [(2, .int (nI (cB (s_nn S) (s_sto S)))), (1, .int (nI (s_garb S))), (0, .ref x)]) hx hb dX8_garbagePart_14 rfl hl (by decide) rfl (fun ls hl => ?_)
  refine lv_iload_n hx hb dX8_garbagePart_15 rfl (lv_at hl 0 rfl) ?_
  refine mm_if_ne (tgt := 23) (by omega) hx hb dX8_garbagePart_16 (by decide) (fun c_16 => ?_) (fun c_16 => ?_)
  · refine lv_iload_n hx hb dX8_garbagePart_23 rfl (lv_at hl 1 rfl) ?_
    refine lv_i2f hx hb dX8_garbagePart_24 ?_
    refine lv_iload_n hx hb dX8_garbagePart_25 rfl (lv_at hl 0 rfl) ?_
    refine lv_i2f hx hb dX8_garbagePart_26 ?_
    refine lv_fdiv hx hb dX8_garbagePart_27 (mm_fdivN (by omega) (by omega) (by omega)) ?_
    exact mm_fret (v := FP.fdiv (FP.i2f (nI (s_garb S))) (FP.i2f (nI (cB (s_nn S) (s_sto S))))) hx hb hr hlk hS (Nat.le_of_ble_eq_true rfl) (Nat.le_of_ble_eq_true rfl) (⟨by rw [show gpV (s_garb S) (cB (s_nn S) (s_sto S)) = FP.fdiv (FP.i2f (nI (s_garb S))) (FP.i2f (nI (cB (s_nn S) (s_sto S)))) from if_neg c_16], F_6, hT, he_6⟩) dX8_garbagePart_28
  · refine lv_fconst0 hx hb dX8_garbagePart_19 ?_
    refine lv_goto (tgt := 28) hx hb dX8_garbagePart_20 (by decide) ?_
    exact mm_fret (v := FP.fconst0) hx hb hr hlk hS (Nat.le_of_ble_eq_true rfl) (Nat.le_of_ble_eq_true rfl) (⟨by rw [show gpV (s_garb S) (cB (s_nn S) (s_sto S)) = FP.fconst0 from if_pos c_16], F_6, hT, he_6⟩) dX8_garbagePart_28
