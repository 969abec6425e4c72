/-! the twin: levels (printed by tools/tw8.py) -/
set_option maxRecDepth 100000 in
theorem t_clear (l : Launch) {G : mm_G} {P : mm_H} {H : Heap} {x : Nat} {ad : Nat → Nat} {I : Nat → Int32} {F : Nat → Nat → Int32} (hT : TW G x ad I F H) : Mt l yX8_clear (ws_ yX8_clear cX8_clear 2 none) 0 0 0 0 G P [.ref x] H (tw_M x ad) (mm_v (fun H2 => ∃ F2, TW G x ad I F2 H2 ∧ eqx [0] F F2 ∧ TR (F2 0) s_mt)) := by
  refine Mt.of (by decide) (Nat.le_of_ble_eq_true rfl) (fun p e s m below meth c ls hx hb hr hlk hml hown hnm hts hKK hsH hl hS => ?_)
  have hl : lv_has ls 2 [(0, .ref x)] := hl
  have hMx : mm_A (tw_M x ad) H x := Or.inl (Or.inl rfl)
  have hMa : ∀ j, tw_isA j = true → mm_A (tw_M x ad) H (ad j) := fun j hj => Or.inl (Or.inr ⟨j, hj, rfl⟩)
  refine lv_iconst (v := nI 0) hx hb dX8_clear_0 (by decide) ?_
  refine lv_istore_n (lv' := [(1, .int (nI 0)), (0, .ref x)]) hx hb dX8_clear_1 rfl hl (by decide) rfl (fun ls hl => ?_)
  have lp_2 : ∀ (fu : Nat) (i : Nat) (H1 : Heap) (F1 : Nat → Nat → Int32) (L : List Loc) (ls : Array Slot), 4210 - i < fu → (i ≤ 4210) → lv_has ls 2 [(1, .int (nI i)), (0, .ref x)] → (TW G x ad I F1 H1) → (eqx [0] F F1) → (∀ k, k < i → F1 0 k = nI 0) → va_S (mm_A (tw_M x ad) H) H H1 L → W p l e (mm_rm 0 0 0 0) s m ([.ref x] : List Value).toArray below meth c H1 L 0 0 (MQ below (mm_Qc H (tw_M x ad) (mm_v (fun H2 => ∃ F2, TW G x ad I F2 H2 ∧ eqx [0] F F2 ∧ TR (F2 0) s_mt))) ([.ref x] : List Value).toArray s 0 0 (mm_A (tw_M x ad) H)) (F0 m 2 ls []) := by
    intro fu; induction fu with
    | zero => intro i H1 F1 L ls hfu; exact absurd hfu (Nat.not_lt_zero _)
    | succ fu ih =>
      intro i H1 F1 L ls hfu hi hl hT he h0 hS
      have ih_2 := ih
      refine lv_iload_n hx hb dX8_clear_2 rfl (lv_at hl 0 rfl) ?_
      refine lv_sipush (v := nI 4210) hx hb dX8_clear_3 (by decide) ?_
      refine mm_icmp_ge (tgt := 22) (by omega) (by omega) hx hb dX8_clear_6 (by decide) (fun c_6 => ?_) (fun c_6 => ?_)
      · exact mm_vret hx hb hr hlk hS (Nat.le_of_ble_eq_true rfl) (Nat.le_of_ble_eq_true rfl) (⟨rfl, F1, hT, he, h0 0 (by omega), h0 1 (by omega), fun v hv => absurd hv (Nat.not_lt_zero _), fun v hv => absurd hv (Nat.not_lt_zero _)⟩) dX8_clear_22
      · refine lv_aload_n hx hb dX8_clear_9 rfl (lv_at hl 1 rfl) ?_
        refine tw_geta 0 hx hb hts hown hKK hT rfl rfl (hts _ q2498) dX8_clear_10 ?_
        refine lv_iload_n hx hb dX8_clear_13 rfl (lv_at hl 0 rfl) ?_
        refine lv_iconst (v := nI 0) hx hb dX8_clear_14 (by decide) ?_
        refine tw_st 0 (k := i) hx hb hKK hT hS hMa rfl rfl (by show _ < 4210; omega) dX8_clear_15 (fun H_15 L_15 hT hz_15 hq_15 hS => ?_)
        refine lv_iinc (v := nI (i + 1)) (lv' := [(1, .int (nI (i + 1))), (0, .ref x)]) hx hb dX8_clear_16 hl (k := 0) rfl (nI_add _ _) (by decide) rfl (fun ls hl => ?_)
        refine lv_goto (tgt := 2) hx hb dX8_clear_19 (by decide) ?_
        exact ih_2 (i + 1) H_15 ((tw_u F1 0 i (nI 0))) _ _ (by omega) (by omega) (lv_sub hl [0, 1] rfl) hT (he.tr (eqx.u (by decide))) (fun k hk => by rw [tw_us]; by_cases z : k = i; rw [z]; exact pk_us; rw [pk_un z]; exact h0 k (by omega)) hS
  exact lp_2 _ 0 H F _ _ (Nat.lt_succ_self _) (by omega) (lv_sub hl [0, 1] rfl) hT eqx.rf (fun k hk => absurd hk (Nat.not_lt_zero _)) hS
set_option maxRecDepth 100000 in
theorem t_makeLeaves (l : Launch) {G : mm_G} {P : mm_H} {H : Heap} {x : Nat} {ad : Nat → Nat} {I : Nat → Int32} {F : Nat → Nat → Int32} {S : sp_S} {n : Nat} {ev : Nat → Int32} (hT : TW G x ad I F H) (hR : TR (F 0) S) (hW : WF S) (hI9 : I 9 = nI n) (hn : n ≤ 64) (hn9 : s_nn S + 16 ≤ 190) (hvl : ∀ i, i < n → F 8 i = ev i) : Mt l yX8_makeLeaves (ws_ yX8_makeLeaves cX8_makeLeaves 5 (some .int)) 6 200 0 0 G P [.ref x] H (tw_M x ad) (mm_i (nI ((n + 3) / 4)) (fun H2 => ∃ F2, TW G x ad I F2 H2 ∧ eqx [0, 7, 10] F F2 ∧ TR (F2 0) (mkLs true ev n S ((n + 3) / 4)) ∧ ∀ j, j < (n + 3) / 4 → F2 10 j = nI (s_nn S + j))) := by
  refine Mt.of (by decide) (Nat.le_of_ble_eq_true rfl) (fun p e s m below meth c ls hx hb hr hlk hml hown hnm hts hKK hsH hl hS => ?_)
  have hl : lv_has ls 5 [(0, .ref x)] := hl
  have hR0 := hR
  have hMx : mm_A (tw_M x ad) H x := Or.inl (Or.inl rfl)
  have hMa : ∀ j, tw_isA j = true → mm_A (tw_M x ad) H (ad j) := fun j hj => Or.inl (Or.inr ⟨j, hj, rfl⟩)
  have hnv := hW.nv
  have hnn := hW.nn
  refine lv_iconst (v := nI 0) hx hb dX8_makeLeaves_0 (by decide) ?_
  refine lv_istore_n (lv' := [(1, .int (nI 0)), (0, .ref x)]) hx hb dX8_makeLeaves_1 rfl hl (by decide) rfl (fun ls hl => ?_)
  refine lv_iconst (v := nI 0) hx hb dX8_makeLeaves_2 (by decide) ?_
  refine lv_istore_n (lv' := [(2, .int (nI 0)), (1, .int (nI 0)), (0, .ref x)]) hx hb dX8_makeLeaves_3 rfl hl (by decide) rfl (fun ls hl => ?_)
  have hnv := hW.nv
  have lp_4 : ∀ (fu : Nat) (q : Nat) (H1 : Heap) (F1 : Nat → Nat → Int32) (L : List Loc) (ls : Array Slot), (n + 3) / 4 - q < fu → (q ≤ (n + 3) / 4) → lv_has ls 5 [(1, .int (nI q)), (2, .int (nI (4 * q))), (0, .ref x)] → (TW G x ad I F1 H1) → (eqx [0, 7, 10] F F1) → (TR (F1 0) (mkLs true ev n S q)) → (∀ j, j < q → F1 10 j = nI (s_nn S + j)) → va_S (mm_A (tw_M x ad) H) H H1 L → W p l e (mm_rm 6 200 0 0) s m ([.ref x] : List Value).toArray below meth c H1 L 0 0 (MQ below (mm_Qc H (tw_M x ad) (mm_i (nI ((n + 3) / 4)) (fun H2 => ∃ F2, TW G x ad I F2 H2 ∧ eqx [0, 7, 10] F F2 ∧ TR (F2 0) (mkLs true ev n S ((n + 3) / 4)) ∧ ∀ j, j < (n + 3) / 4 → F2 10 j = nI (s_nn S + j)))) ([.ref x] : List Value).toArray s 0 0 (mm_A (tw_M x ad) H)) (F0 m 4 ls []) := by
    intro fu; induction fu with
    | zero => intro q H1 F1 L ls hfu; exact absurd hfu (Nat.not_lt_zero _)
    | succ fu ih =>
      intro q H1 F1 L ls hfu hq hl hT he hR h10 hS
      have ih_4 := ih
      have hmq := mkLs_ex true ev n S q
      have hW : WF (mkLs true ev n S q) := mkLs_WF hW (fun h => by cases h) (by omega)
      refine lv_iload_n hx hb dX8_makeLeaves_4 rfl (lv_at hl 1 rfl) ?_
      refine lv_aload_n hx hb dX8_makeLeaves_5 rfl (lv_at hl 2 rfl) ?_
      refine tw_geti 9 (v := nI n) hx hb hts hown hKK hT (by decide) rfl (hI9) (hts _ q2507) dX8_makeLeaves_6 ?_
      refine mm_icmp_ge (tgt := 75) (by omega) (by omega) hx hb dX8_makeLeaves_9 (by decide) (fun c_9 => ?_) (fun c_9 => ?_)
      · refine lv_iload_n hx hb dX8_makeLeaves_75 rfl (lv_at hl 0 rfl) ?_
        exact mm_iret (v := nI q) hx hb hr hlk hS (Nat.le_of_ble_eq_true rfl) (Nat.le_of_ble_eq_true rfl) (⟨by rw [show q = (n + 3) / 4 by omega], F1, hT, he, by rw [show (n + 3) / 4 = q by omega]; exact hR, fun j hj => h10 j (by omega)⟩) dX8_makeLeaves_76
      · refine lv_iconst (v := nI 4) hx hb dX8_makeLeaves_12 (by decide) ?_
        refine lv_aload_n hx hb dX8_makeLeaves_13 rfl (lv_at hl 2 rfl) ?_
        refine tw_geti 9 (v := nI n) hx hb hts hown hKK hT (by decide) rfl (hI9) (hts _ q2507) dX8_makeLeaves_14 ?_
        refine lv_iload_n hx hb dX8_makeLeaves_17 rfl (lv_at hl 1 rfl) ?_
        refine mm_isub (by omega) hx hb dX8_makeLeaves_18 ?_
        refine va_mmin (x := nI 4) (y := nI (n - (4 * q))) (rest := []) hx hb (hml.trans hl.1.symm) hown (hts _ q2459) (hts _ q322) (hts _ q143) (hts _ q323) (Nat.le_of_ble_eq_true rfl) (Nat.le_of_ble_eq_true rfl) (Nat.le_of_ble_eq_true rfl) (Nat.le_of_ble_eq_true rfl) dX8_makeLeaves_19 ?_
        refine mm_top (mm_minN (by omega) (by omega)) ?_
        refine lv_istore_n (lv' := [(3, .int (nI (min 4 (n - (4 * q))))), (1, .int (nI q)), (2, .int (nI (4 * q))), (0, .ref x)]) hx hb dX8_makeLeaves_22 rfl hl (by decide) rfl (fun ls hl => ?_)
        refine lv_iconst (v := nI 0) hx hb dX8_makeLeaves_23 (by decide) ?_
        refine lv_istore (lv' := [(4, .int (nI 0)), (3, .int (nI (min 4 (n - (4 * q))))), (1, .int (nI q)), (2, .int (nI (4 * q))), (0, .ref x)]) hx hb dX8_makeLeaves_24 hl (by decide) rfl (fun ls hl => ?_)
        have lp_26 : ∀ (fu : Nat) (i : Nat) (H2 : Heap) (F2 : Nat → Nat → Int32) (L : List Loc) (ls : Array Slot), min 4 (n - 4 * q) - i < fu → (i ≤ min 4 (n - 4 * q)) → lv_has ls 5 [(1, .int (nI q)), (2, .int (nI (4 * q))), (0, .ref x), (3, .int (nI (min 4 (n - 4 * q)))), (4, .int (nI i))] → (TW G x ad I F2 H2) → (eqx [7] F1 F2) → (∀ j, j < i → F2 7 j = ev (4 * q + j)) → va_S (mm_A (tw_M x ad) H) H H2 L → W p l e (mm_rm 6 200 0 0) s m ([.ref x] : List Value).toArray below meth c H2 L 0 0 (MQ below (mm_Qc H (tw_M x ad) (mm_i (nI ((n + 3) / 4)) (fun H2 => ∃ F2, TW G x ad I F2 H2 ∧ eqx [0, 7, 10] F F2 ∧ TR (F2 0) (mkLs true ev n S ((n + 3) / 4)) ∧ ∀ j, j < (n + 3) / 4 → F2 10 j = nI (s_nn S + j)))) ([.ref x] : List Value).toArray s 0 0 (mm_A (tw_M x ad) H)) (F0 m 26 ls []) := by
          intro fu; induction fu with
          | zero => intro i H2 F2 L ls hfu; exact absurd hfu (Nat.not_lt_zero _)
          | succ fu ih =>
            intro i H2 F2 L ls hfu hi hl hT he2 h7 hS
            have ih_26 := ih
            refine lv_iload hx hb dX8_makeLeaves_26 (lv_at hl 4 rfl) ?_
            refine lv_iload_n hx hb dX8_makeLeaves_28 rfl (lv_at hl 3 rfl) ?_
            refine mm_icmp_ge (tgt := 54) (by omega) (by omega) hx hb dX8_makeLeaves_29 (by decide) (fun c_29 => ?_) (fun c_29 => ?_)
            · have hR2 : TR (F2 0) (mkLs true ev n S q) := TRx he2 (by decide) hR
              refine lv_aload_n hx hb dX8_makeLeaves_54 rfl (lv_at hl 2 rfl) ?_
              refine tw_geta 10 hx hb hts hown hKK hT rfl rfl (hts _ q2508) dX8_makeLeaves_55 ?_
              refine lv_iload_n hx hb dX8_makeLeaves_58 rfl (lv_at hl 0 rfl) ?_
              refine lv_aload_n hx hb dX8_makeLeaves_59 rfl (lv_at hl 2 rfl) ?_
              refine lv_iconst (v := nI 1) hx hb dX8_makeLeaves_60 (by decide) ?_
              refine mm_top (y := mm_b true) rfl ?_
              refine lv_iload_n hx hb dX8_makeLeaves_61 rfl (lv_at hl 3 rfl) ?_
              refine mm_ri (va_runV (As := [.int (mm_b true), .int (nI (min 4 (n - 4 * q)))]) (rest := [.int (nI q), .ref (ad 10)]) ⟨hx, hb, hml, hown, hts⟩ (t_makeNode l (S := mkLs true ev n S q) hT (hR2) hW (by omega) (by omega)) (cwV 2 hts (lw_V q2460 q2462 qs57 q164 q2463) rfl rfl rfl (by decide +kernel) ⟨Nat.le_of_ble_eq_true rfl, Nat.le_of_ble_eq_true rfl⟩) (mm_pV hKK (mm_rc hKK hT.2.1 mm_le.rf rfl)) rfl rfl hl.1 rfl (lv_room (Nat.le_of_ble_eq_true rfl)) dX8_makeLeaves_62 ⟨Nat.le_of_ble_eq_true rfl, Nat.le_of_ble_eq_true rfl⟩) hS (mm_sS hS) (fun H_62 L_62 hB_62 hz_62 hq_62 hS => ?_)
              obtain ⟨F_62, hT, he_62, hR_62⟩ := hB_62
              refine mm_top (y := nI (s_nn S + q)) (by rw [hmq.2]) ?_
              refine tw_st 10 (k := q) hx hb hKK hT hS hMa rfl rfl (by show _ < 64; omega) dX8_makeLeaves_65 (fun H_65 L_65 hT hz_65 hq_65 hS => ?_)
              refine lv_iinc (v := nI (q + 1)) (lv' := [(1, .int (nI (q + 1))), (2, .int (nI (4 * q))), (0, .ref x), (3, .int (nI (min 4 (n - 4 * q)))), (4, .int (nI i))]) hx hb dX8_makeLeaves_66 hl (k := 0) rfl (nI_add _ _) (by decide) rfl (fun ls hl => ?_)
              refine lv_iinc (v := nI (4 * q + 4)) (lv' := [(2, .int (nI (4 * q + 4))), (1, .int (nI (q + 1))), (0, .ref x), (3, .int (nI (min 4 (n - 4 * q)))), (4, .int (nI i))]) hx hb dX8_makeLeaves_69 hl (k := 1) rfl (nI_add _ _) (by decide) rfl (fun ls hl => ?_)
              rw [show 4 * q + 4 = 4 * (q + 1) by omega] at hl
              refine lv_goto (tgt := 4) hx hb dX8_makeLeaves_72 (by decide) ?_
              exact ih_4 (q + 1) H_65 ((tw_u F_62 10 q (nI (s_nn S + q)))) _ _ (by omega) (by omega) (lv_sub hl [1, 0, 2] rfl) hT (he.tr ((he2.mono (by decide)).tr ((he_62.mono (by decide)).tr (eqx.u (by decide))))) (by rw [tw_uo (by decide), mkLs_s]; exact TR_addN_congr hR_62 (fun j hj => h7 j (by omega))) (fun j hj => by rw [tw_us]; by_cases z : j = q; rw [z]; exact pk_us; rw [pk_un z, he_62 10 (by decide), he2 10 (by decide)]; exact h10 j (by omega)) hS
            · refine lv_aload_n hx hb dX8_makeLeaves_32 rfl (lv_at hl 2 rfl) ?_
              refine tw_geta 7 hx hb hts hown hKK hT rfl rfl (hts _ q2505) dX8_makeLeaves_33 ?_
              refine lv_iload hx hb dX8_makeLeaves_36 (lv_at hl 4 rfl) ?_
              refine lv_aload_n hx hb dX8_makeLeaves_38 rfl (lv_at hl 2 rfl) ?_
              refine tw_geta 8 hx hb hts hown hKK hT rfl rfl (hts _ q2506) dX8_makeLeaves_39 ?_
              refine lv_iload_n hx hb dX8_makeLeaves_42 rfl (lv_at hl 1 rfl) ?_
              refine lv_iload hx hb dX8_makeLeaves_43 (lv_at hl 4 rfl) ?_
              refine mm_iadd hx hb dX8_makeLeaves_45 ?_
              refine mm_iald (k := (4 * q + i)) hx hb hKK (hT.2.2 8 rfl) mm_le.rf (by show _ < 64; omega) (by decide) dX8_makeLeaves_46 ?_
              refine mm_top (y := ev (4 * q + i)) (by rw [he2 8 (by decide), he 8 (by decide)]; exact hvl _ (by omega)) ?_
              refine tw_st 7 (k := i) hx hb hKK hT hS hMa rfl rfl (by show _ < 4; omega) dX8_makeLeaves_47 (fun H_47 L_47 hT hz_47 hq_47 hS => ?_)
              refine lv_iinc (v := nI (i + 1)) (lv' := [(4, .int (nI (i + 1))), (1, .int (nI q)), (2, .int (nI (4 * q))), (0, .ref x), (3, .int (nI (min 4 (n - 4 * q))))]) hx hb dX8_makeLeaves_48 hl (k := 4) rfl (nI_add _ _) (by decide) rfl (fun ls hl => ?_)
              refine lv_goto (tgt := 26) hx hb dX8_makeLeaves_51 (by decide) ?_
              exact ih_26 (i + 1) H_47 ((tw_u F2 7 i (ev (4 * q + i)))) _ _ (by omega) (by omega) (lv_sub hl [1, 2, 3, 4, 0] rfl) hT (he2.tr (eqx.u (by decide))) (fun j hj => by rw [tw_us]; by_cases z : j = i; rw [z]; exact pk_us; rw [pk_un z]; exact h7 j (by omega)) hS
        exact lp_26 _ 0 H1 F1 _ _ (Nat.lt_succ_self _) (by omega) (lv_sub hl [2, 3, 4, 1, 0] rfl) hT eqx.rf (fun j hj => absurd hj (Nat.not_lt_zero _)) hS
  exact lp_4 _ 0 H F _ _ (Nat.lt_succ_self _) (by omega) (lv_sub hl [1, 0, 2] rfl) hT eqx.rf hR (fun j hj => absurd hj (Nat.not_lt_zero _)) hS
set_option maxRecDepth 100000 in
theorem t_makeLevel (l : Launch) {G : mm_G} {P : mm_H} {H : Heap} {x : Nat} {ad : Nat → Nat} {I : Nat → Int32} {F : Nat → Nat → Int32} {S : sp_S} {n : Nat} {ev : Nat → Int32} (hT : TW G x ad I F H) (hR : TR (F 0) S) (hW : WF S) (hn : n ≤ 64) (hn9 : s_nn S + 16 ≤ 190) (hvl : ∀ i, i < n → F 10 i = ev i) (hev : ∀ i, i < n → ∃ k, k < s_nn S ∧ ev i = nI k) : Mt l yX8_makeLevel (ws_ yX8_makeLevel cX8_makeLevel 6 (some .int)) 6 200 0 0 G P [.ref x, .int (nI n)] H (tw_M x ad) (mm_i (nI ((n + 3) / 4)) (fun H2 => ∃ F2, TW G x ad I F2 H2 ∧ eqx [0, 7, 10] F F2 ∧ TR (F2 0) (mkLs false ev n S ((n + 3) / 4)) ∧ ∀ j, j < (n + 3) / 4 → F2 10 j = nI (s_nn S + j))) := by
  refine Mt.of (by decide) (Nat.le_of_ble_eq_true rfl) (fun p e s m below meth c ls hx hb hr hlk hml hown hnm hts hKK hsH hl hS => ?_)
  have hl : lv_has ls 6 [(0, .ref x), (1, .int (nI n))] := hl
  have hR0 := hR
  have hMx : mm_A (tw_M x ad) H x := Or.inl (Or.inl rfl)
  have hMa : ∀ j, tw_isA j = true → mm_A (tw_M x ad) H (ad j) := fun j hj => Or.inl (Or.inr ⟨j, hj, rfl⟩)
  have hnv := hW.nv
  have hnn := hW.nn
  refine lv_iconst (v := nI 0) hx hb dX8_makeLevel_0 (by decide) ?_
  refine lv_istore_n (lv' := [(2, .int (nI 0)), (0, .ref x), (1, .int (nI n))]) hx hb dX8_makeLevel_1 rfl hl (by decide) rfl (fun ls hl => ?_)
  refine lv_iconst (v := nI 0) hx hb dX8_makeLevel_2 (by decide) ?_
  refine lv_istore_n (lv' := [(3, .int (nI 0)), (2, .int (nI 0)), (0, .ref x), (1, .int (nI n))]) hx hb dX8_makeLevel_3 rfl hl (by decide) rfl (fun ls hl => ?_)
  have hnv := hW.nv
  have lp_4 : ∀ (fu : Nat) (q : Nat) (H1 : Heap) (F1 : Nat → Nat → Int32) (L : List Loc) (ls : Array Slot), (n + 3) / 4 - q < fu → (q ≤ (n + 3) / 4) → lv_has ls 6 [(2, .int (nI q)), (3, .int (nI (4 * q))), (0, .ref x), (1, .int (nI n))] → (TW G x ad I F1 H1) → (eqx [0, 7, 10] F F1) → (TR (F1 0) (mkLs false ev n S q)) → (∀ j, j < q → F1 10 j = nI (s_nn S + j)) → (∀ j, q ≤ j → F1 10 j = F 10 j) → va_S (mm_A (tw_M x ad) H) H H1 L → W p l e (mm_rm 6 200 0 0) s m ([.ref x, .int (nI n)] : List Value).toArray below meth c H1 L 0 0 (MQ below (mm_Qc H (tw_M x ad) (mm_i (nI ((n + 3) / 4)) (fun H2 => ∃ F2, TW G x ad I F2 H2 ∧ eqx [0, 7, 10] F F2 ∧ TR (F2 0) (mkLs false ev n S ((n + 3) / 4)) ∧ ∀ j, j < (n + 3) / 4 → F2 10 j = nI (s_nn S + j)))) ([.ref x, .int (nI n)] : List Value).toArray s 0 0 (mm_A (tw_M x ad) H)) (F0 m 4 ls []) := by
    intro fu; induction fu with
    | zero => intro q H1 F1 L ls hfu; exact absurd hfu (Nat.not_lt_zero _)
    | succ fu ih =>
      intro q H1 F1 L ls hfu hq hl hT he hR h10 h10b hS
      have ih_4 := ih
      have hmq := mkLs_ex false ev n S q
      have hW : WF (mkLs false ev n S q) := mkLs_WF hW (fun _ => hev) (by omega)
      refine lv_iload_n hx hb dX8_makeLevel_4 rfl (lv_at hl 1 rfl) ?_
      refine lv_iload_n hx hb dX8_makeLevel_5 rfl (lv_at hl 3 rfl) ?_
      refine mm_icmp_ge (tgt := 72) (by omega) (by omega) hx hb dX8_makeLevel_6 (by decide) (fun c_6 => ?_) (fun c_6 => ?_)
      · refine lv_iload_n hx hb dX8_makeLevel_72 rfl (lv_at hl 0 rfl) ?_
        exact mm_iret (v := nI q) hx hb hr hlk hS (Nat.le_of_ble_eq_true rfl) (Nat.le_of_ble_eq_true rfl) (⟨by rw [show q = (n + 3) / 4 by omega], F1, hT, he, by rw [show (n + 3) / 4 = q by omega]; exact hR, fun j hj => h10 j (by omega)⟩) dX8_makeLevel_73
      · refine lv_iconst (v := nI 4) hx hb dX8_makeLevel_9 (by decide) ?_
        refine lv_iload_n hx hb dX8_makeLevel_10 rfl (lv_at hl 3 rfl) ?_
        refine lv_iload_n hx hb dX8_makeLevel_11 rfl (lv_at hl 1 rfl) ?_
        refine mm_isub (by omega) hx hb dX8_makeLevel_12 ?_
        refine va_mmin (x := nI 4) (y := nI (n - (4 * q))) (rest := []) hx hb (hml.trans hl.1.symm) hown (hts _ q2459) (hts _ q322) (hts _ q143) (hts _ q323) (Nat.le_of_ble_eq_true rfl) (Nat.le_of_ble_eq_true rfl) (Nat.le_of_ble_eq_true rfl) (Nat.le_of_ble_eq_true rfl) dX8_makeLevel_13 ?_
        refine mm_top (mm_minN (by omega) (by omega)) ?_
        refine lv_istore (lv' := [(4, .int (nI (min 4 (n - (4 * q))))), (2, .int (nI q)), (3, .int (nI (4 * q))), (0, .ref x), (1, .int (nI n))]) hx hb dX8_makeLevel_16 hl (by decide) rfl (fun ls hl => ?_)
        refine lv_iconst (v := nI 0) hx hb dX8_makeLevel_18 (by decide) ?_
        refine lv_istore (lv' := [(5, .int (nI 0)), (4, .int (nI (min 4 (n - (4 * q))))), (2, .int (nI q)), (3, .int (nI (4 * q))), (0, .ref x), (1, .int (nI n))]) hx hb dX8_makeLevel_19 hl (by decide) rfl (fun ls hl => ?_)
        have lp_21 : ∀ (fu : Nat) (i : Nat) (H2 : Heap) (F2 : Nat → Nat → Int32) (L : List Loc) (ls : Array Slot), min 4 (n - 4 * q) - i < fu → (i ≤ min 4 (n - 4 * q)) → lv_has ls 6 [(2, .int (nI q)), (3, .int (nI (4 * q))), (0, .ref x), (1, .int (nI n)), (4, .int (nI (min 4 (n - 4 * q)))), (5, .int (nI i))] → (TW G x ad I F2 H2) → (eqx [7] F1 F2) → (∀ j, j < i → F2 7 j = ev (4 * q + j)) → va_S (mm_A (tw_M x ad) H) H H2 L → W p l e (mm_rm 6 200 0 0) s m ([.ref x, .int (nI n)] : List Value).toArray below meth c H2 L 0 0 (MQ below (mm_Qc H (tw_M x ad) (mm_i (nI ((n + 3) / 4)) (fun H2 => ∃ F2, TW G x ad I F2 H2 ∧ eqx [0, 7, 10] F F2 ∧ TR (F2 0) (mkLs false ev n S ((n + 3) / 4)) ∧ ∀ j, j < (n + 3) / 4 → F2 10 j = nI (s_nn S + j)))) ([.ref x, .int (nI n)] : List Value).toArray s 0 0 (mm_A (tw_M x ad) H)) (F0 m 21 ls []) := by
          intro fu; induction fu with
          | zero => intro i H2 F2 L ls hfu; exact absurd hfu (Nat.not_lt_zero _)
          | succ fu ih =>
            intro i H2 F2 L ls hfu hi hl hT he2 h7 hS
            have ih_21 := ih
            refine lv_iload hx hb dX8_makeLevel_21 (lv_at hl 5 rfl) ?_
            refine lv_iload hx hb dX8_makeLevel_23 (lv_at hl 4 rfl) ?_
            refine mm_icmp_ge (tgt := 50) (by omega) (by omega) hx hb dX8_makeLevel_25 (by decide) (fun c_25 => ?_) (fun c_25 => ?_)
            · have hR2 : TR (F2 0) (mkLs false ev n S q) := TRx he2 (by decide) hR
              refine lv_aload_n hx hb dX8_makeLevel_50 rfl (lv_at hl 2 rfl) ?_
              refine tw_geta 10 hx hb hts hown hKK hT rfl rfl (hts _ q2508) dX8_makeLevel_51 ?_
              refine lv_iload_n hx hb dX8_makeLevel_54 rfl (lv_at hl 0 rfl) ?_
              refine lv_aload_n hx hb dX8_makeLevel_55 rfl (lv_at hl 2 rfl) ?_
              refine lv_iconst (v := nI 0) hx hb dX8_makeLevel_56 (by decide) ?_
              refine mm_top (y := mm_b false) rfl ?_
              refine lv_iload hx hb dX8_makeLevel_57 (lv_at hl 4 rfl) ?_
              refine mm_ri (va_runV (As := [.int (mm_b false), .int (nI (min 4 (n - 4 * q)))]) (rest := [.int (nI q), .ref (ad 10)]) ⟨hx, hb, hml, hown, hts⟩ (t_makeNode l (S := mkLs false ev n S q) hT (hR2) hW (by omega) (by omega)) (cwV 2 hts (lw_V q2460 q2462 qs57 q164 q2463) rfl rfl rfl (by decide +kernel) ⟨Nat.le_of_ble_eq_true rfl, Nat.le_of_ble_eq_true rfl⟩) (mm_pV hKK (mm_rc hKK hT.2.1 mm_le.rf rfl)) rfl rfl hl.1 rfl (lv_room (Nat.le_of_ble_eq_true rfl)) dX8_makeLevel_59 ⟨Nat.le_of_ble_eq_true rfl, Nat.le_of_ble_eq_true rfl⟩) hS (mm_sS hS) (fun H_59 L_59 hB_59 hz_59 hq_59 hS => ?_)
              obtain ⟨F_59, hT, he_59, hR_59⟩ := hB_59
              refine mm_top (y := nI (s_nn S + q)) (by rw [hmq.2]) ?_
              refine tw_st 10 (k := q) hx hb hKK hT hS hMa rfl rfl (by show _ < 64; omega) dX8_makeLevel_62 (fun H_62 L_62 hT hz_62 hq_62 hS => ?_)
              refine lv_iinc (v := nI (q + 1)) (lv' := [(2, .int (nI (q + 1))), (3, .int (nI (4 * q))), (0, .ref x), (1, .int (nI n)), (4, .int (nI (min 4 (n - 4 * q)))), (5, .int (nI i))]) hx hb dX8_makeLevel_63 hl (k := 0) rfl (nI_add _ _) (by decide) rfl (fun ls hl => ?_)
              refine lv_iinc (v := nI (4 * q + 4)) (lv' := [(3, .int (nI (4 * q + 4))), (2, .int (nI (q + 1))), (0, .ref x), (1, .int (nI n)), (4, .int (nI (min 4 (n - 4 * q)))), (5, .int (nI i))]) hx hb dX8_makeLevel_66 hl (k := 1) rfl (nI_add _ _) (by decide) rfl (fun ls hl => ?_)
              rw [show 4 * q + 4 = 4 * (q + 1) by omega] at hl
              refine lv_goto (tgt := 4) hx hb dX8_makeLevel_69 (by decide) ?_
              exact ih_4 (q + 1) H_62 ((tw_u F_59 10 q (nI (s_nn S + q)))) _ _ (by omega) (by omega) (lv_sub hl [1, 0, 2, 3] rfl) hT (he.tr ((he2.mono (by decide)).tr ((he_59.mono (by decide)).tr (eqx.u (by decide))))) (by rw [tw_uo (by decide), mkLs_s]; exact TR_addN_congr hR_59 (fun j hj => h7 j (by omega))) (fun j hj => by rw [tw_us]; by_cases z : j = q; rw [z]; exact pk_us; rw [pk_un z, he_59 10 (by decide), he2 10 (by decide)]; exact h10 j (by omega)) (fun j hj => by rw [tw_us, pk_un (by omega), he_59 10 (by decide), he2 10 (by decide)]; exact h10b j (by omega)) hS
            · refine lv_aload_n hx hb dX8_makeLevel_28 rfl (lv_at hl 2 rfl) ?_
              refine tw_geta 7 hx hb hts hown hKK hT rfl rfl (hts _ q2505) dX8_makeLevel_29 ?_
              refine lv_iload hx hb dX8_makeLevel_32 (lv_at hl 5 rfl) ?_
              refine lv_aload_n hx hb dX8_makeLevel_34 rfl (lv_at hl 2 rfl) ?_
              refine tw_geta 10 hx hb hts hown hKK hT rfl rfl (hts _ q2508) dX8_makeLevel_35 ?_
              refine lv_iload_n hx hb dX8_makeLevel_38 rfl (lv_at hl 1 rfl) ?_
              refine lv_iload hx hb dX8_makeLevel_39 (lv_at hl 5 rfl) ?_
              refine mm_iadd hx hb dX8_makeLevel_41 ?_
              refine mm_iald (k := (4 * q + i)) hx hb hKK (hT.2.2 10 rfl) mm_le.rf (by show _ < 64; omega) (by decide) dX8_makeLevel_42 ?_
              refine mm_top (y := ev (4 * q + i)) (by rw [he2 10 (by decide), h10b _ (by omega)]; exact hvl _ (by omega)) ?_
              refine tw_st 7 (k := i) hx hb hKK hT hS hMa rfl rfl (by show _ < 4; omega) dX8_makeLevel_43 (fun H_43 L_43 hT hz_43 hq_43 hS => ?_)
              refine lv_iinc (v := nI (i + 1)) (lv' := [(5, .int (nI (i + 1))), (2, .int (nI q)), (3, .int (nI (4 * q))), (0, .ref x), (1, .int (nI n)), (4, .int (nI (min 4 (n - 4 * q))))]) hx hb dX8_makeLevel_44 hl (k := 5) rfl (nI_add _ _) (by decide) rfl (fun ls hl => ?_)
              refine lv_goto (tgt := 21) hx hb dX8_makeLevel_47 (by decide) ?_
              exact ih_21 (i + 1) H_43 ((tw_u F2 7 i (ev (4 * q + i)))) _ _ (by omega) (by omega) (lv_sub hl [1, 2, 3, 4, 5, 0] rfl) hT (he2.tr (eqx.u (by decide))) (fun j hj => by rw [tw_us]; by_cases z : j = i; rw [z]; exact pk_us; rw [pk_un z]; exact h7 j (by omega)) hS
        exact lp_21 _ 0 H1 F1 _ _ (Nat.lt_succ_self _) (by omega) (lv_sub hl [2, 3, 4, 5, 1, 0] rfl) hT eqx.rf (fun j hj => absurd hj (Nat.not_lt_zero _)) hS
  exact lp_4 _ 0 H F _ _ (Nat.lt_succ_self _) (by omega) (lv_sub hl [1, 0, 2, 3] rfl) hT eqx.rf hR (fun j hj => absurd hj (Nat.not_lt_zero _)) (fun j hj => rfl) hS
