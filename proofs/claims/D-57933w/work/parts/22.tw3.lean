/-! the twin: nodes walked (printed by tools/tw3.py) -/
set_option maxRecDepth 100000 in
theorem t_cost (l : Launch) {G : mm_G} {P : mm_H} {H : Heap} {x : Nat} {ad : Nat → Nat} {I : Nat → Int32} {F : Nat → Nat → Int32} {S : sp_S} (h : Nat) {a b : Nat} (hT : TW G x ad I F H) (hR : TR (F 0) S) (hW : WF S) (hga : Hgt S h a) (hgb : Hgt S h b) : Mt l yX8_cost (ws_ yX8_cost cX8_cost 6 (some .int)) ((h + 2)) ((h * 60 + 60)) 0 0 G P [.ref x, .int (nI a), .int (nI b)] H mm_0 (mm_pu (.int (nI (cst S h a b))) H) := by
  induction h generalizing a b with
  | zero => exact hga.elim
  | succ h ihr =>
    refine Mt.of (by decide) (Nat.le_of_ble_eq_true rfl) (fun p e s m below meth c ls hx hb hr hlk hml hown hnm hts hKK hsH hl hS => ?_)
    have hl : lv_has ls 6 [(0, .ref x), (1, .int (nI a)), (2, .int (nI b))] := hl
    have hnv := hW.nv
    have hnn := hW.nn
    have ha := hga.1
    have hb9 := hgb.1
    have hca := hW.cnt ha
    have hcb := hW.cnt hb9
    refine lv_iload_n hx hb dX8_cost_0 rfl (lv_at hl 1 rfl) ?_
    refine lv_iload_n hx hb dX8_cost_1 rfl (lv_at hl 2 rfl) ?_
    refine mm_icmp_ne (tgt := 7) (by omega) (by omega) hx hb dX8_cost_2 (by decide) (fun c_2 => ?_) (fun c_2 => ?_)
    · refine lv_aload_n hx hb dX8_cost_7 rfl (lv_at hl 0 rfl) ?_
      refine lv_iload_n hx hb dX8_cost_8 rfl (lv_at hl 1 rfl) ?_
      refine mm_rpu (va_runV (As := [.int (nI a)]) (rest := []) ⟨hx, hb, hml, hown, hts⟩ (t_isLeafNode l hT hR hW (by first | assumption | omega)) (cwV 1 hts (lw_V q2793 q2795 qs101 q164 q2796) rfl rfl rfl (by decide +kernel) ⟨by simp only [mm_rm]; omega, by simp only [mm_rm]; omega⟩) (mm_pV hKK (mm_rc hKK hT.2.1 mm_le.rf rfl)) rfl rfl hl.1 rfl (lv_room (Nat.le_of_ble_eq_true rfl)) dX8_cost_9 ⟨Nat.le_of_ble_eq_true rfl, Nat.le_of_ble_eq_true rfl⟩) hS (mm_s0 hS) (fun L_9 hS => ?_)
      refine mm_ifeqB (tgt := 17) hx hb dX8_cost_12 (by decide) (fun c_12 => ?_) (fun c_12 => ?_)
      · have hlb : s_leaf S b = false := by cases hl9 : s_leaf S b with | false => rfl | true => exact absurd (hga.2.1.mpr (hgb.2.1.mp hl9)) (by rw [c_12]; decide)
        refine lv_iconst (v := nI 1) hx hb dX8_cost_17 (by decide) ?_
        refine lv_istore_n (lv' := [(3, .int (nI 1)), (0, .ref x), (1, .int (nI a)), (2, .int (nI b))]) hx hb dX8_cost_18 rfl hl (by decide) rfl (fun ls hl => ?_)
        refine lv_aload_n hx hb dX8_cost_19 rfl (lv_at hl 1 rfl) ?_
        refine lv_iload_n hx hb dX8_cost_20 rfl (lv_at hl 2 rfl) ?_
        refine mm_rpu (va_runV (As := [.int (nI a)]) (rest := []) ⟨hx, hb, hml, hown, hts⟩ (t_countOf l hT hR hW (by first | assumption | omega)) (cwV 1 hts (lw_V q2745 q2747 qs89 q164 q2748) rfl rfl rfl (by decide +kernel) ⟨by simp only [mm_rm]; omega, by simp only [mm_rm]; omega⟩) (mm_pV hKK (mm_rc hKK hT.2.1 mm_le.rf rfl)) rfl rfl hl.1 rfl (lv_room (Nat.le_of_ble_eq_true rfl)) dX8_cost_21 ⟨Nat.le_of_ble_eq_true rfl, Nat.le_of_ble_eq_true rfl⟩) hS (mm_s0 hS) (fun L_21 hS => ?_)
        refine lv_aload_n hx hb dX8_cost_24 rfl (lv_at hl 1 rfl) ?_
        refine lv_iload_n hx hb dX8_cost_25 rfl (lv_at hl 3 rfl) ?_
        refine mm_rpu (va_runV (As := [.int (nI b)]) (rest := [.int (nI (s_cnt S a))]) ⟨hx, hb, hml, hown, hts⟩ (t_countOf l hT hR hW (by first | assumption | omega)) (cwV 1 hts (lw_V q2745 q2747 qs89 q164 q2748) rfl rfl rfl (by decide +kernel) ⟨by simp only [mm_rm]; omega, by simp only [mm_rm]; omega⟩) (mm_pV hKK (mm_rc hKK hT.2.1 mm_le.rf rfl)) rfl rfl hl.1 rfl (lv_room (Nat.le_of_ble_eq_true rfl)) dX8_cost_26 ⟨Nat.le_of_ble_eq_true rfl, Nat.le_of_ble_eq_true rfl⟩) hS (mm_s0 hS) (fun L_26 hS => ?_)
        refine va_mmin (x := nI (s_cnt S a)) (y := nI (s_cnt S b)) (rest := []) hx hb (hml.trans hl.1.symm) hown (hts _ q2459) (hts _ q322) (hts _ q143) (hts _ q323) (by simp only [mm_rm]; omega) (Nat.le_trans (m := 21) (Nat.le_of_ble_eq_true rfl) (by simp only [mm_rm]; omega)) (by simp only [mm_rm]; omega) (by simp only [mm_rm]; omega) dX8_cost_29 ?_
        refine mm_top (mm_minN (by omega) (by omega)) ?_
        refine lv_istore (lv' := [(4, .int (nI (min (s_cnt S a) (s_cnt S b)))), (3, .int (nI 1)), (0, .ref x), (1, .int (nI a)), (2, .int (nI b))]) hx hb dX8_cost_32 hl (by decide) rfl (fun ls hl => ?_)
        refine lv_iconst (v := nI 0) hx hb dX8_cost_34 (by decide) ?_
        refine lv_istore (lv' := [(5, .int (nI 0)), (4, .int (nI (min (s_cnt S a) (s_cnt S b)))), (3, .int (nI 1)), (0, .ref x), (1, .int (nI a)), (2, .int (nI b))]) hx hb dX8_cost_35 hl (by decide) rfl (fun ls hl => ?_)
        have lp_37 : ∀ (fu : Nat) (i : Nat)  (L : List Loc) (ls : Array Slot), min (s_cnt S a) (s_cnt S b) - i < fu → (i ≤ min (s_cnt S a) (s_cnt S b)) → lv_has ls 6 [(3, .int (nI (1 + sumN i (fun i => cst S h (s_chd S a i) (s_chd S b i))))), (5, .int (nI i)), (4, .int (nI (min (s_cnt S a) (s_cnt S b)))), (0, .ref x), (1, .int (nI a)), (2, .int (nI b))] → va_S (mm_A mm_0 H) H H L → W p l e (mm_rm (((h + 1) + 2)) (((h + 1) * 60 + 60)) 0 0) s m ([.ref x, .int (nI a), .int (nI b)] : List Value).toArray below meth c H L 0 0 (MQ below (mm_Qc H mm_0 (mm_pu (.int (nI (cst S (h + 1) a b))) H)) ([.ref x, .int (nI a), .int (nI b)] : List Value).toArray s 0 0 (mm_A mm_0 H)) (F0 m 37 ls []) := by
          intro fu; induction fu with
          | zero => intro i L ls hfu; exact absurd hfu (Nat.not_lt_zero _)
          | succ fu ih =>
            intro i L ls hfu hi hl  hS
            have ih_37 := ih
            refine lv_iload hx hb dX8_cost_37 (lv_at hl 1 rfl) ?_
            refine lv_iload hx hb dX8_cost_39 (lv_at hl 2 rfl) ?_
            refine mm_icmp_ge (tgt := 71) (by omega) (by omega) hx hb dX8_cost_41 (by decide) (fun c_41 => ?_) (fun c_41 => ?_)
            · refine lv_iload_n hx hb dX8_cost_71 rfl (lv_at hl 0 rfl) ?_
              exact mm_iret (v := nI (1 + sumN i (fun i => cst S h (s_chd S a i) (s_chd S b i)))) hx hb hr hlk hS (Nat.le_of_ble_eq_true rfl) (Nat.le_of_ble_eq_true rfl) (⟨by simp only [cst]; rw [if_neg c_2, if_neg (by rw [c_12]; decide), show min (s_cnt S a) (s_cnt S b) = i by omega], rfl⟩) dX8_cost_72
            · refine lv_iload_n hx hb dX8_cost_44 rfl (lv_at hl 0 rfl) ?_
              refine lv_aload_n hx hb dX8_cost_45 rfl (lv_at hl 3 rfl) ?_
              refine lv_aload_n hx hb dX8_cost_46 rfl (lv_at hl 3 rfl) ?_
              refine lv_iload_n hx hb dX8_cost_47 rfl (lv_at hl 4 rfl) ?_
              refine lv_iload hx hb dX8_cost_48 (lv_at hl 1 rfl) ?_
              refine mm_rpu (va_runV (As := [.int (nI a), .int (nI i)]) (rest := [.ref x, .int (nI (1 + sumN i (fun i => cst S h (s_chd S a i) (s_chd S b i))))]) ⟨hx, hb, hml, hown, hts⟩ (t_entry l hT hR hW (by first | assumption | omega) (by first | assumption | omega)) (cwV 2 hts (lw_V q2753 q2755 qs91 q164 q2756) rfl rfl rfl (by decide +kernel) ⟨by simp only [mm_rm]; omega, by simp only [mm_rm]; omega⟩) (mm_pV hKK (mm_rc hKK hT.2.1 mm_le.rf rfl)) rfl rfl hl.1 rfl (lv_room (Nat.le_of_ble_eq_true rfl)) dX8_cost_50 ⟨Nat.le_of_ble_eq_true rfl, Nat.le_of_ble_eq_true rfl⟩) hS (mm_s0 hS) (fun L_50 hS => ?_)
              refine mm_top (hW.ent ha c_12 (by omega)).1 ?_
              refine lv_aload_n hx hb dX8_cost_53 rfl (lv_at hl 3 rfl) ?_
              refine lv_iload_n hx hb dX8_cost_54 rfl (lv_at hl 5 rfl) ?_
              refine lv_iload hx hb dX8_cost_55 (lv_at hl 1 rfl) ?_
              refine mm_rpu (va_runV (As := [.int (nI b), .int (nI i)]) (rest := [.int (nI (s_chd S a i)), .ref x, .int (nI (1 + sumN i (fun i => cst S h (s_chd S a i) (s_chd S b i))))]) ⟨hx, hb, hml, hown, hts⟩ (t_entry l hT hR hW (by first | assumption | omega) (by first | assumption | omega)) (cwV 2 hts (lw_V q2753 q2755 qs91 q164 q2756) rfl rfl rfl (by decide +kernel) ⟨by simp only [mm_rm]; omega, by simp only [mm_rm]; omega⟩) (mm_pV hKK (mm_rc hKK hT.2.1 mm_le.rf rfl)) rfl rfl hl.1 rfl (lv_room (Nat.le_of_ble_eq_true rfl)) dX8_cost_57 ⟨Nat.le_of_ble_eq_true rfl, Nat.le_of_ble_eq_true rfl⟩) hS (mm_s0 hS) (fun L_57 hS => ?_)
              refine mm_top (hW.ent hb9 hlb (by omega)).1 ?_
              refine mm_rpu (va_runV (As := [.int (nI (s_chd S a i)), .int (nI (s_chd S b i))]) (rest := [.int (nI (1 + sumN i (fun i => cst S h (s_chd S a i) (s_chd S b i))))]) ⟨hx, hb, hml, hown, hts⟩ (ihr (hga.chd c_12 (by omega)) (hgb.chd hlb (by omega))) (cwV 2 hts (lw_V q2997 q2999 qs124 q164 q3000) rfl rfl rfl (by decide +kernel) ⟨by simp only [mm_rm]; omega, by simp only [mm_rm]; omega⟩) (mm_pV hKK (mm_rc hKK hT.2.1 mm_le.rf rfl)) rfl rfl hl.1 rfl (lv_room (Nat.le_of_ble_eq_true rfl)) dX8_cost_60 ⟨Nat.le_of_ble_eq_true rfl, Nat.le_of_ble_eq_true rfl⟩) hS (mm_s0 hS) (fun L_60 hS => ?_)
              refine mm_iadd hx hb dX8_cost_63 ?_
              refine mm_top (y := nI (1 + sumN (i + 1) (fun i => cst S h (s_chd S a i) (s_chd S b i)))) (congrArg nI (by rw [sumN_succ]; omega)) ?_
              refine lv_istore_n (lv' := [(3, .int (nI (1 + sumN (i + 1) (fun i => cst S h (s_chd S a i) (s_chd S b i))))), (5, .int (nI i)), (4, .int (nI (min (s_cnt S a) (s_cnt S b)))), (0, .ref x), (1, .int (nI a)), (2, .int (nI b))]) hx hb dX8_cost_64 rfl hl (by decide) rfl (fun ls hl => ?_)
              refine lv_iinc (v := nI (i + 1)) (lv' := [(5, .int (nI (i + 1))), (3, .int (nI (1 + sumN (i + 1) (fun i => cst S h (s_chd S a i) (s_chd S b i))))), (4, .int (nI (min (s_cnt S a) (s_cnt S b)))), (0, .ref x), (1, .int (nI a)), (2, .int (nI b))]) hx hb dX8_cost_65 hl (k := 1) rfl (nI_add _ _) (by decide) rfl (fun ls hl => ?_)
              refine lv_goto (tgt := 37) hx hb dX8_cost_68 (by decide) ?_
              exact ih_37 (i + 1) _ _ (by omega) (by omega) (lv_sub hl [1, 0, 2, 3, 4, 5] rfl)  hS
        exact lp_37 _ 0 _ _ (Nat.lt_succ_self _) (by omega) (lv_sub hl [2, 0, 1, 3, 4, 5] rfl)  hS
      · refine lv_iconst (v := nI 1) hx hb dX8_cost_15 (by decide) ?_
        exact mm_iret (v := nI 1) hx hb hr hlk hS (Nat.le_of_ble_eq_true rfl) (Nat.le_of_ble_eq_true rfl) (⟨by simp only [cst]; rw [if_neg c_2, if_pos c_12], rfl⟩) dX8_cost_16
    · refine lv_iconst (v := nI 0) hx hb dX8_cost_5 (by decide) ?_
      exact mm_iret (v := nI 0) hx hb hr hlk hS (Nat.le_of_ble_eq_true rfl) (Nat.le_of_ble_eq_true rfl) (⟨by simp only [cst]; rw [if_pos c_2], rfl⟩) dX8_cost_6
set_option maxRecDepth 100000 in
theorem t_hasChild (l : Launch) {G : mm_G} {P : mm_H} {H : Heap} {x : Nat} {ad : Nat → Nat} {I : Nat → Int32} {F : Nat → Nat → Int32} {S : sp_S} {a k : Nat} (hT : TW G x ad I F H) (hR : TR (F 0) S) (hW : WF S) (ha : a < s_nn S) (hk : k < s_nn S) : Mt l yX8_hasChild (ws_ yX8_hasChild cX8_hasChild 4 (some .boolean)) 3 60 0 0 G P [.ref x, .int (nI a), .int (nI k)] H mm_0 (mm_pu (.int (mm_b (hsC S a k))) H) := by
  refine Mt.of (by decide) (Nat.le_of_ble_eq_true rfl) (fun p e s m below meth c ls hx hb hr hlk hml hown hnm hts hKK hsH hl hS => ?_)
  have hl : lv_has ls 4 [(0, .ref x), (1, .int (nI a)), (2, .int (nI k))] := hl
  have hnv := hW.nv
  have hnn := hW.nn
  have hc := hW.cnt ha
  refine lv_aload_n hx hb dX8_hasChild_0 rfl (lv_at hl 0 rfl) ?_
  refine lv_iload_n hx hb dX8_hasChild_1 rfl (lv_at hl 1 rfl) ?_
  refine mm_rpu (va_runV (As := [.int (nI a)]) (rest := []) ⟨hx, hb, hml, hown, hts⟩ (t_isStored l hT hR hW) (cwV 1 hts (lw_V q2817 q2819 qs107 q164 q2820) rfl rfl rfl (by decide +kernel) ⟨Nat.le_of_ble_eq_true rfl, Nat.le_of_ble_eq_true rfl⟩) (mm_pV hKK (mm_rc hKK hT.2.1 mm_le.rf rfl)) rfl rfl hl.1 rfl (lv_room (Nat.le_of_ble_eq_true rfl)) dX8_hasChild_2 ⟨Nat.le_of_ble_eq_true rfl, Nat.le_of_ble_eq_true rfl⟩) hS (mm_s0 hS) (fun L_2 hS => ?_)
  refine mm_top (y := mm_b (s_sto S a)) (congrArg mm_b (isSt_n (by first | assumption | omega) hnn)) ?_
  refine mm_ifeqB (tgt := 16) hx hb dX8_hasChild_5 (by decide) (fun c_5 => ?_) (fun c_5 => ?_)
  · refine lv_iconst (v := nI 0) hx hb dX8_hasChild_16 (by decide) ?_
    exact mm_zret (v := nI 0) hx hb hr hlk hS (Nat.le_of_ble_eq_true rfl) (Nat.le_of_ble_eq_true rfl) (rfl) (⟨by first | exact mm_e0 (hsC_0 (Or.inl c_5)) | exact mm_e0 (hsC_0 (Or.inr (Or.inl c_13))) | exact mm_e1 (hsC_1 c_5 c_13 c_26 c_36) | exact mm_e0 (hsC_0 (Or.inr (Or.inr (fun j hj => hne j (by omega))))), rfl⟩) dX8_hasChild_17
  · refine lv_aload_n hx hb dX8_hasChild_8 rfl (lv_at hl 0 rfl) ?_
    refine lv_iload_n hx hb dX8_hasChild_9 rfl (lv_at hl 1 rfl) ?_
    refine mm_rpu (va_runV (As := [.int (nI a)]) (rest := []) ⟨hx, hb, hml, hown, hts⟩ (t_isLeafNode l hT hR hW (by first | assumption | omega)) (cwV 1 hts (lw_V q2793 q2795 qs101 q164 q2796) rfl rfl rfl (by decide +kernel) ⟨Nat.le_of_ble_eq_true rfl, Nat.le_of_ble_eq_true rfl⟩) (mm_pV hKK (mm_rc hKK hT.2.1 mm_le.rf rfl)) rfl rfl hl.1 rfl (lv_room (Nat.le_of_ble_eq_true rfl)) dX8_hasChild_10 ⟨Nat.le_of_ble_eq_true rfl, Nat.le_of_ble_eq_true rfl⟩) hS (mm_s0 hS) (fun L_10 hS => ?_)
    refine mm_ifeqB (tgt := 18) hx hb dX8_hasChild_13 (by decide) (fun c_13 => ?_) (fun c_13 => ?_)
    · refine lv_iconst (v := nI 0) hx hb dX8_hasChild_18 (by decide) ?_
      refine lv_istore_n (lv' := [(3, .int (nI 0)), (0, .ref x), (1, .int (nI a)), (2, .int (nI k))]) hx hb dX8_hasChild_19 rfl hl (by decide) rfl (fun ls hl => ?_)
      have lp_20 : ∀ (fu : Nat) (i : Nat)  (L : List Loc) (ls : Array Slot), s_cnt S a - i < fu → (i ≤ s_cnt S a) → (∀ j, j < i → s_chd S a j ≠ k) → lv_has ls 4 [(3, .int (nI i)), (0, .ref x), (1, .int (nI a)), (2, .int (nI k))] → va_S (mm_A mm_0 H) H H L → W p l e (mm_rm 3 60 0 0) s m ([.ref x, .int (nI a), .int (nI k)] : List Value).toArray below meth c H L 0 0 (MQ below (mm_Qc H mm_0 (mm_pu (.int (mm_b (hsC S a k))) H)) ([.ref x, .int (nI a), .int (nI k)] : List Value).toArray s 0 0 (mm_A mm_0 H)) (F0 m 20 ls []) := by
        intro fu; induction fu with
        | zero => intro i L ls hfu; exact absurd hfu (Nat.not_lt_zero _)
        | succ fu ih =>
          intro i L ls hfu hi hne hl  hS
          have ih_20 := ih
          refine lv_iload_n hx hb dX8_hasChild_20 rfl (lv_at hl 0 rfl) ?_
          refine lv_aload_n hx hb dX8_hasChild_21 rfl (lv_at hl 1 rfl) ?_
          refine lv_iload_n hx hb dX8_hasChild_22 rfl (lv_at hl 2 rfl) ?_
          refine mm_rpu (va_runV (As := [.int (nI a)]) (rest := [.int (nI i)]) ⟨hx, hb, hml, hown, hts⟩ (t_countOf l hT hR hW (by first | assumption | omega)) (cwV 1 hts (lw_V q2745 q2747 qs89 q164 q2748) rfl rfl rfl (by decide +kernel) ⟨Nat.le_of_ble_eq_true rfl, Nat.le_of_ble_eq_true rfl⟩) (mm_pV hKK (mm_rc hKK hT.2.1 mm_le.rf rfl)) rfl rfl hl.1 rfl (lv_room (Nat.le_of_ble_eq_true rfl)) dX8_hasChild_23 ⟨Nat.le_of_ble_eq_true rfl, Nat.le_of_ble_eq_true rfl⟩) hS (mm_s0 hS) (fun L_23 hS => ?_)
          refine mm_icmp_ge (tgt := 47) (by omega) (by omega) hx hb dX8_hasChild_26 (by decide) (fun c_26 => ?_) (fun c_26 => ?_)
          · refine lv_iconst (v := nI 0) hx hb dX8_hasChild_47 (by decide) ?_
            exact mm_zret (v := nI 0) hx hb hr hlk hS (Nat.le_of_ble_eq_true rfl) (Nat.le_of_ble_eq_true rfl) (rfl) (⟨by first | exact mm_e0 (hsC_0 (Or.inl c_5)) | exact mm_e0 (hsC_0 (Or.inr (Or.inl c_13))) | exact mm_e1 (hsC_1 c_5 c_13 c_26 c_36) | exact mm_e0 (hsC_0 (Or.inr (Or.inr (fun j hj => hne j (by omega))))), rfl⟩) dX8_hasChild_48
          · have he9 := hW.ent ha c_13 (show i < s_cnt S a from c_26)
            refine lv_aload_n hx hb dX8_hasChild_29 rfl (lv_at hl 1 rfl) ?_
            refine lv_iload_n hx hb dX8_hasChild_30 rfl (lv_at hl 2 rfl) ?_
            refine lv_iload_n hx hb dX8_hasChild_31 rfl (lv_at hl 0 rfl) ?_
            refine mm_rpu (va_runV (As := [.int (nI a), .int (nI i)]) (rest := []) ⟨hx, hb, hml, hown, hts⟩ (t_entry l hT hR hW (by first | assumption | omega) (by first | assumption | omega)) (cwV 2 hts (lw_V q2753 q2755 qs91 q164 q2756) rfl rfl rfl (by decide +kernel) ⟨Nat.le_of_ble_eq_true rfl, Nat.le_of_ble_eq_true rfl⟩) (mm_pV hKK (mm_rc hKK hT.2.1 mm_le.rf rfl)) rfl rfl hl.1 rfl (lv_room (Nat.le_of_ble_eq_true rfl)) dX8_hasChild_32 ⟨Nat.le_of_ble_eq_true rfl, Nat.le_of_ble_eq_true rfl⟩) hS (mm_s0 hS) (fun L_32 hS => ?_)
            refine mm_top he9.1 ?_
            refine lv_iload_n hx hb dX8_hasChild_35 rfl (lv_at hl 3 rfl) ?_
            refine mm_icmp_ne (tgt := 41) (by omega) (by omega) hx hb dX8_hasChild_36 (by decide) (fun c_36 => ?_) (fun c_36 => ?_)
            · refine lv_iinc (v := nI (i + 1)) (lv' := [(3, .int (nI (i + 1))), (0, .ref x), (1, .int (nI a)), (2, .int (nI k))]) hx hb dX8_hasChild_41 hl (k := 0) rfl (nI_add _ _) (by decide) rfl (fun ls hl => ?_)
              refine lv_goto (tgt := 20) hx hb dX8_hasChild_44 (by decide) ?_
              exact ih_20 (i + 1) _ _ (by omega) (by omega) (fun j hj => by rcases Nat.lt_or_ge j i with z | z; exact hne j z; rw [show j = i by omega]; exact c_36) (lv_sub hl [0, 1, 2, 3] rfl)  hS
            · refine lv_iconst (v := nI 1) hx hb dX8_hasChild_39 (by decide) ?_
              exact mm_zret (v := nI 1) hx hb hr hlk hS (Nat.le_of_ble_eq_true rfl) (Nat.le_of_ble_eq_true rfl) (rfl) (⟨by first | exact mm_e0 (hsC_0 (Or.inl c_5)) | exact mm_e0 (hsC_0 (Or.inr (Or.inl c_13))) | exact mm_e1 (hsC_1 c_5 c_13 c_26 c_36) | exact mm_e0 (hsC_0 (Or.inr (Or.inr (fun j hj => hne j (by omega))))), rfl⟩) dX8_hasChild_40
      exact lp_20 _ 0 _ _ (Nat.lt_succ_self _) (by omega) (fun j hj => absurd hj (Nat.not_lt_zero _)) (lv_sub hl [0, 1, 2, 3] rfl)  hS
    · refine lv_iconst (v := nI 0) hx hb dX8_hasChild_16 (by decide) ?_
      exact mm_zret (v := nI 0) hx hb hr hlk hS (Nat.le_of_ble_eq_true rfl) (Nat.le_of_ble_eq_true rfl) (rfl) (⟨by first | exact mm_e0 (hsC_0 (Or.inl c_5)) | exact mm_e0 (hsC_0 (Or.inr (Or.inl c_13))) | exact mm_e1 (hsC_1 c_5 c_13 c_26 c_36) | exact mm_e0 (hsC_0 (Or.inr (Or.inr (fun j hj => hne j (by omega))))), rfl⟩) dX8_hasChild_17
set_option maxRecDepth 100000 in
theorem t_isRoot (l : Launch) {G : mm_G} {P : mm_H} {H : Heap} {x : Nat} {ad : Nat → Nat} {I : Nat → Int32} {F : Nat → Nat → Int32} {S : sp_S} {k : Nat} (hT : TW G x ad I F H) (hR : TR (F 0) S) (hW : WF S) (hk : k < s_nn S) : Mt l yX8_isRoot (ws_ yX8_isRoot cX8_isRoot 3 (some .boolean)) 2 60 0 0 G P [.ref x, .int (nI k)] H mm_0 (mm_pu (.int (mm_b (isRt S k))) H) := by
  refine Mt.of (by decide) (Nat.le_of_ble_eq_true rfl) (fun p e s m below meth c ls hx hb hr hlk hml hown hnm hts hKK hsH hl hS => ?_)
  have hl : lv_has ls 3 [(0, .ref x), (1, .int (nI k))] := hl
  have hnv := hW.nv
  have hnn := hW.nn
  refine lv_iconst (v := nI 0) hx hb dX8_isRoot_0 (by decide) ?_
  refine lv_istore_n (lv' := [(2, .int (nI 0)), (0, .ref x), (1, .int (nI k))]) hx hb dX8_isRoot_1 rfl hl (by decide) rfl (fun ls hl => ?_)
  have lp_2 : ∀ (fu : Nat) (v : Nat)  (L : List Loc) (ls : Array Slot), s_nv S - v < fu → (v ≤ s_nv S) → (∀ j, j < v → s_rel S j = false → s_root S j ≠ some k) → lv_has ls 3 [(2, .int (nI v)), (0, .ref x), (1, .int (nI k))] → va_S (mm_A mm_0 H) H H L → W p l e (mm_rm 2 60 0 0) s m ([.ref x, .int (nI k)] : List Value).toArray below meth c H L 0 0 (MQ below (mm_Qc H mm_0 (mm_pu (.int (mm_b (isRt S k))) H)) ([.ref x, .int (nI k)] : List Value).toArray s 0 0 (mm_A mm_0 H)) (F0 m 2 ls []) := by
    intro fu; induction fu with
    | zero => intro v L ls hfu; exact absurd hfu (Nat.not_lt_zero _)
    | succ fu ih =>
      intro v L ls hfu hv9 hne hl  hS
      have ih_2 := ih
      refine lv_iload_n hx hb dX8_isRoot_2 rfl (lv_at hl 0 rfl) ?_
      refine lv_aload_n hx hb dX8_isRoot_3 rfl (lv_at hl 1 rfl) ?_
      refine tw_geta 0 hx hb hts hown hKK hT rfl rfl (hts _ q2498) dX8_isRoot_4 ?_
      refine lv_iconst (v := nI 0) hx hb dX8_isRoot_7 (by decide) ?_
      refine mm_iald (k := 0) hx hb hKK (hT.2.2 0 rfl) mm_le.rf (by show _ < 4210; omega) (by decide) dX8_isRoot_8 ?_
      refine mm_top (y := nI (s_nv S)) (hR.nv) ?_
      refine mm_icmp_ge (tgt := 37) (by omega) (by omega) hx hb dX8_isRoot_9 (by decide) (fun c_9 => ?_) (fun c_9 => ?_)
      · refine lv_iconst (v := nI 0) hx hb dX8_isRoot_37 (by decide) ?_
        exact mm_zret (v := nI 0) hx hb hr hlk hS (Nat.le_of_ble_eq_true rfl) (Nat.le_of_ble_eq_true rfl) (rfl) (⟨by first | exact mm_e1 (isRt_1 c_9 c_17 c_26) | exact mm_e0 (isRt_0 (fun j hj hl => hne j (by omega) hl)), rfl⟩) dX8_isRoot_38
      · refine lv_aload_n hx hb dX8_isRoot_12 rfl (lv_at hl 1 rfl) ?_
        refine lv_iload_n hx hb dX8_isRoot_13 rfl (lv_at hl 0 rfl) ?_
        refine mm_rpu (va_runV (As := [.int (nI v)]) (rest := []) ⟨hx, hb, hml, hown, hts⟩ (t_isGone l hT hR hW (by first | assumption | omega)) (cwV 1 hts (lw_V q2717 q2719 qs82 q164 q2720) rfl rfl rfl (by decide +kernel) ⟨Nat.le_of_ble_eq_true rfl, Nat.le_of_ble_eq_true rfl⟩) (mm_pV hKK (mm_rc hKK hT.2.1 mm_le.rf rfl)) rfl rfl hl.1 rfl (lv_room (Nat.le_of_ble_eq_true rfl)) dX8_isRoot_14 ⟨Nat.le_of_ble_eq_true rfl, Nat.le_of_ble_eq_true rfl⟩) hS (mm_s0 hS) (fun L_14 hS => ?_)
        refine mm_ifneB (tgt := 31) hx hb dX8_isRoot_17 (by decide) (fun c_17 => ?_) (fun c_17 => ?_)
        · refine lv_iinc (v := nI (v + 1)) (lv' := [(2, .int (nI (v + 1))), (0, .ref x), (1, .int (nI k))]) hx hb dX8_isRoot_31 hl (k := 0) rfl (nI_add _ _) (by decide) rfl (fun ls hl => ?_)
          refine lv_goto (tgt := 2) hx hb dX8_isRoot_34 (by decide) ?_
          exact ih_2 (v + 1) _ _ (by omega) (by omega) (fun j hj hq9 => by rcases Nat.lt_or_ge j v with z | z; exact hne j z hq9; obtain rfl : j = v := (by omega); exact absurd hq9 (by rw [c_17]; decide)) (lv_sub hl [0, 1, 2] rfl)  hS
        · refine lv_aload_n hx hb dX8_isRoot_20 rfl (lv_at hl 1 rfl) ?_
          refine lv_iload_n hx hb dX8_isRoot_21 rfl (lv_at hl 0 rfl) ?_
          refine mm_rpu (va_runV (As := [.int (nI v)]) (rest := []) ⟨hx, hb, hml, hown, hts⟩ (t_root l hT hR hW (by first | assumption | omega)) (cwV 1 hts (lw_V q2729 q2731 qs85 q164 q2732) rfl rfl rfl (by decide +kernel) ⟨Nat.le_of_ble_eq_true rfl, Nat.le_of_ble_eq_true rfl⟩) (mm_pV hKK (mm_rc hKK hT.2.1 mm_le.rf rfl)) rfl rfl hl.1 rfl (lv_room (Nat.le_of_ble_eq_true rfl)) dX8_isRoot_22 ⟨Nat.le_of_ble_eq_true rfl, Nat.le_of_ble_eq_true rfl⟩) hS (mm_s0 hS) (fun L_22 hS => ?_)
          refine lv_iload_n hx hb dX8_isRoot_25 rfl (lv_at hl 2 rfl) ?_
          refine mm_icmp_neP (tgt := 31) (fun r hr => by have := hW.root (show v < s_nv S from c_9) hr; omega) (by omega) hx hb dX8_isRoot_26 (by decide) (fun c_26 => ?_) (fun c_26 => ?_)
          · refine lv_iinc (v := nI (v + 1)) (lv' := [(2, .int (nI (v + 1))), (0, .ref x), (1, .int (nI k))]) hx hb dX8_isRoot_31 hl (k := 0) rfl (nI_add _ _) (by decide) rfl (fun ls hl => ?_)
            refine lv_goto (tgt := 2) hx hb dX8_isRoot_34 (by decide) ?_
            exact ih_2 (v + 1) _ _ (by omega) (by omega) (fun j hj hq9 => by rcases Nat.lt_or_ge j v with z | z; exact hne j z hq9; obtain rfl : j = v := (by omega); exact c_26) (lv_sub hl [0, 1, 2] rfl)  hS
          · refine lv_iconst (v := nI 1) hx hb dX8_isRoot_29 (by decide) ?_
            exact mm_zret (v := nI 1) hx hb hr hlk hS (Nat.le_of_ble_eq_true rfl) (Nat.le_of_ble_eq_true rfl) (rfl) (⟨by first | exact mm_e1 (isRt_1 c_9 c_17 c_26) | exact mm_e0 (isRt_0 (fun j hj hl => hne j (by omega) hl)), rfl⟩) dX8_isRoot_30
  exact lp_2 _ 0 _ _ (Nat.lt_succ_self _) (by omega) (fun j hj => absurd hj (Nat.not_lt_zero _)) (lv_sub hl [0, 1, 2] rfl)  hS
set_option maxRecDepth 100000 in
theorem t_isHeld (l : Launch) {G : mm_G} {P : mm_H} {H : Heap} {x : Nat} {ad : Nat → Nat} {I : Nat → Int32} {F : Nat → Nat → Int32} {S : sp_S} (h : Nat) {k : Nat} (hT : TW G x ad I F H) (hR : TR (F 0) S) (hW : WF S) (hk : k < s_nn S) (hd : s_nn S ≤ k + h) : Mt l yX8_isHeld (ws_ yX8_isHeld cX8_isHeld 3 (some .boolean)) ((h + 5)) ((h * 60 + 100)) 0 0 G P [.ref x, .int (nI k)] H mm_0 (mm_pu (.int (mm_b (hld S h k))) H) := by
  induction h generalizing k with
  | zero => exact absurd hd (by omega)
  | succ h ihr =>
    refine Mt.of (by decide) (Nat.le_of_ble_eq_true rfl) (fun p e s m below meth c ls hx hb hr hlk hml hown hnm hts hKK hsH hl hS => ?_)
    have hl : lv_has ls 3 [(0, .ref x), (1, .int (nI k))] := hl
    have hnv := hW.nv
    have hnn := hW.nn
    refine lv_aload_n hx hb dX8_isHeld_0 rfl (lv_at hl 0 rfl) ?_
    refine lv_iload_n hx hb dX8_isHeld_1 rfl (lv_at hl 1 rfl) ?_
    refine mm_rpu (va_runV (As := [.int (nI k)]) (rest := []) ⟨hx, hb, hml, hown, hts⟩ (t_isRoot l hT hR hW (by first | assumption | omega)) (cwV 1 hts (lw_V q3047 q3049 qs129 q164 q3050) rfl rfl rfl (by decide +kernel) ⟨by simp only [mm_rm]; omega, by simp only [mm_rm]; omega⟩) (mm_pV hKK (mm_rc hKK hT.2.1 mm_le.rf rfl)) rfl rfl hl.1 rfl (lv_room (Nat.le_of_ble_eq_true rfl)) dX8_isHeld_2 ⟨Nat.le_of_ble_eq_true rfl, Nat.le_of_ble_eq_true rfl⟩) hS (mm_s0 hS) (fun L_2 hS => ?_)
    refine mm_ifeqB (tgt := 10) hx hb dX8_isHeld_5 (by decide) (fun c_5 => ?_) (fun c_5 => ?_)
    · refine lv_iconst (v := nI 0) hx hb dX8_isHeld_10 (by decide) ?_
      refine lv_istore_n (lv' := [(2, .int (nI 0)), (0, .ref x), (1, .int (nI k))]) hx hb dX8_isHeld_11 rfl hl (by decide) rfl (fun ls hl => ?_)
      have lp_12 : ∀ (fu : Nat) (o : Nat)  (L : List Loc) (ls : Array Slot), s_nn S - o < fu → (o ≤ s_nn S) → (∀ j, j < o → hsC S j k = true → hld S h j = false) → lv_has ls 3 [(2, .int (nI o)), (0, .ref x), (1, .int (nI k))] → va_S (mm_A mm_0 H) H H L → W p l e (mm_rm (((h + 1) + 5)) (((h + 1) * 60 + 100)) 0 0) s m ([.ref x, .int (nI k)] : List Value).toArray below meth c H L 0 0 (MQ below (mm_Qc H mm_0 (mm_pu (.int (mm_b (hld S (h + 1) k))) H)) ([.ref x, .int (nI k)] : List Value).toArray s 0 0 (mm_A mm_0 H)) (F0 m 12 ls []) := by
        intro fu; induction fu with
        | zero => intro o L ls hfu; exact absurd hfu (Nat.not_lt_zero _)
        | succ fu ih =>
          intro o L ls hfu ho hne hl  hS
          have ih_12 := ih
          refine lv_iload_n hx hb dX8_isHeld_12 rfl (lv_at hl 0 rfl) ?_
          refine lv_aload_n hx hb dX8_isHeld_13 rfl (lv_at hl 1 rfl) ?_
          refine tw_geta 0 hx hb hts hown hKK hT rfl rfl (hts _ q2498) dX8_isHeld_14 ?_
          refine lv_iconst (v := nI 1) hx hb dX8_isHeld_17 (by decide) ?_
          refine mm_iald (k := 1) hx hb hKK (hT.2.2 0 rfl) mm_le.rf (by show _ < 4210; omega) (by decide) dX8_isHeld_18 ?_
          refine mm_top (y := nI (s_nn S)) (hR.nn) ?_
          refine mm_icmp_ge (tgt := 47) (by omega) (by omega) hx hb dX8_isHeld_19 (by decide) (fun c_19 => ?_) (fun c_19 => ?_)
          · refine lv_iconst (v := nI 0) hx hb dX8_isHeld_47 (by decide) ?_
            exact mm_zret (v := nI 0) hx hb hr hlk hS (Nat.le_of_ble_eq_true rfl) (Nat.le_of_ble_eq_true rfl) (rfl) (⟨by first | exact mm_e1 (by simp only [hld]; rw [c_5]; rfl) | exact mm_e1 (hld_1 c_19 c_28 c_36) | exact mm_e0 (hld_0 c_5 (fun j hj hl => hne j (by omega) hl)), rfl⟩) dX8_isHeld_48
          · refine lv_aload_n hx hb dX8_isHeld_22 rfl (lv_at hl 1 rfl) ?_
            refine lv_iload_n hx hb dX8_isHeld_23 rfl (lv_at hl 0 rfl) ?_
            refine lv_iload_n hx hb dX8_isHeld_24 rfl (lv_at hl 2 rfl) ?_
            refine mm_rpu (va_runV (As := [.int (nI o), .int (nI k)]) (rest := []) ⟨hx, hb, hml, hown, hts⟩ (t_hasChild l hT hR hW (by first | assumption | omega) (by first | assumption | omega)) (cwV 2 hts (lw_V q2977 q2979 qs122 q164 q2980) rfl rfl rfl (by decide +kernel) ⟨by simp only [mm_rm]; omega, by simp only [mm_rm]; omega⟩) (mm_pV hKK (mm_rc hKK hT.2.1 mm_le.rf rfl)) rfl rfl hl.1 rfl (lv_room (Nat.le_of_ble_eq_true rfl)) dX8_isHeld_25 ⟨Nat.le_of_ble_eq_true rfl, Nat.le_of_ble_eq_true rfl⟩) hS (mm_s0 hS) (fun L_25 hS => ?_)
            refine mm_ifeqB (tgt := 41) hx hb dX8_isHeld_28 (by decide) (fun c_28 => ?_) (fun c_28 => ?_)
            · refine lv_iinc (v := nI (o + 1)) (lv' := [(2, .int (nI (o + 1))), (0, .ref x), (1, .int (nI k))]) hx hb dX8_isHeld_41 hl (k := 0) rfl (nI_add _ _) (by decide) rfl (fun ls hl => ?_)
              refine lv_goto (tgt := 12) hx hb dX8_isHeld_44 (by decide) ?_
              exact ih_12 (o + 1) _ _ (by omega) (by omega) (fun j hj hq9 => by rcases Nat.lt_or_ge j o with z | z; exact hne j z hq9; obtain rfl : j = o := (by omega); exact absurd hq9 (by rw [c_28]; decide)) (lv_sub hl [0, 1, 2] rfl)  hS
            · have hlt := hsC_lt hW (show o < s_nn S from c_19) c_28
              refine lv_aload_n hx hb dX8_isHeld_31 rfl (lv_at hl 1 rfl) ?_
              refine lv_iload_n hx hb dX8_isHeld_32 rfl (lv_at hl 0 rfl) ?_
              refine mm_rpu (va_runV (As := [.int (nI o)]) (rest := []) ⟨hx, hb, hml, hown, hts⟩ (ihr (k := o) (by omega) (by omega)) (cwV 1 hts (lw_V q3043 q3045 qs128 q164 q3046) rfl rfl rfl (by decide +kernel) ⟨by simp only [mm_rm]; omega, by simp only [mm_rm]; omega⟩) (mm_pV hKK (mm_rc hKK hT.2.1 mm_le.rf rfl)) rfl rfl hl.1 rfl (lv_room (Nat.le_of_ble_eq_true rfl)) dX8_isHeld_33 ⟨Nat.le_of_ble_eq_true rfl, Nat.le_of_ble_eq_true rfl⟩) hS (mm_s0 hS) (fun L_33 hS => ?_)
              refine mm_ifeqB (tgt := 41) hx hb dX8_isHeld_36 (by decide) (fun c_36 => ?_) (fun c_36 => ?_)
              · refine lv_iinc (v := nI (o + 1)) (lv' := [(2, .int (nI (o + 1))), (0, .ref x), (1, .int (nI k))]) hx hb dX8_isHeld_41 hl (k := 0) rfl (nI_add _ _) (by decide) rfl (fun ls hl => ?_)
                refine lv_goto (tgt := 12) hx hb dX8_isHeld_44 (by decide) ?_
                exact ih_12 (o + 1) _ _ (by omega) (by omega) (fun j hj hq9 => by rcases Nat.lt_or_ge j o with z | z; exact hne j z hq9; obtain rfl : j = o := (by omega); exact c_36) (lv_sub hl [0, 1, 2] rfl)  hS
              · refine lv_iconst (v := nI 1) hx hb dX8_isHeld_39 (by decide) ?_
                exact mm_zret (v := nI 1) hx hb hr hlk hS (Nat.le_of_ble_eq_true rfl) (Nat.le_of_ble_eq_true rfl) (rfl) (⟨by first | exact mm_e1 (by simp only [hld]; rw [c_5]; rfl) | exact mm_e1 (hld_1 c_19 c_28 c_36) | exact mm_e0 (hld_0 c_5 (fun j hj hl => hne j (by omega) hl)), rfl⟩) dX8_isHeld_40
      exact lp_12 _ 0 _ _ (Nat.lt_succ_self _) (by omega) (fun j hj => absurd hj (Nat.not_lt_zero _)) (lv_sub hl [0, 1, 2] rfl)  hS
    · refine lv_iconst (v := nI 1) hx hb dX8_isHeld_8 (by decide) ?_
      exact mm_zret (v := nI 1) hx hb hr hlk hS (Nat.le_of_ble_eq_true rfl) (Nat.le_of_ble_eq_true rfl) (rfl) (⟨by first | exact mm_e1 (by simp only [hld]; rw [c_5]; rfl) | exact mm_e1 (hld_1 c_19 c_28 c_36) | exact mm_e0 (hld_0 c_5 (fun j hj hl => hne j (by omega) hl)), rfl⟩) dX8_isHeld_9
set_option maxRecDepth 100000 in
theorem t_clearReached (l : Launch) {G : mm_G} {P : mm_H} {H : Heap} {x : Nat} {ad : Nat → Nat} {I : Nat → Int32} {F : Nat → Nat → Int32} (hT : TW G x ad I F H) : Mt l yX8_clearReached (ws_ yX8_clearReached cX8_clearReached 2 none) 0 0 0 0 G P [.ref x] H (tw_M x ad) (mm_v (fun H2 => ∃ F2, TW G x ad I F2 H2 ∧ eqx [11] F F2 ∧ ∀ k, k < 200 → F2 11 k = nI 0)) := by
  refine Mt.of (by decide) (Nat.le_of_ble_eq_true rfl) (fun p e s m below meth c ls hx hb hr hlk hml hown hnm hts hKK hsH hl hS => ?_)
  have hl : lv_has ls 2 [(0, .ref x)] := hl
  have hMx : mm_A (tw_M x ad) H x := Or.inl (Or.inl rfl)
  have hMa : ∀ j, tw_isA j = true → mm_A (tw_M x ad) H (ad j) := fun j hj => Or.inl (Or.inr ⟨j, hj, rfl⟩)
  refine lv_iconst (v := nI 0) hx hb dX8_clearReached_0 (by decide) ?_
  refine lv_istore_n (lv' := [(1, .int (nI 0)), (0, .ref x)]) hx hb dX8_clearReached_1 rfl hl (by decide) rfl (fun ls hl => ?_)
  have lp_2 : ∀ (fu : Nat) (i : Nat) (H1 : Heap) (F1 : Nat → Nat → Int32) (L : List Loc) (ls : Array Slot), 200 - i < fu → (i ≤ 200) → lv_has ls 2 [(1, .int (nI i)), (0, .ref x)] → (TW G x ad I F1 H1) → (eqx [11] F F1) → (∀ k, k < i → F1 11 k = nI 0) → va_S (mm_A (tw_M x ad) H) H H1 L → W p l e (mm_rm 0 0 0 0) s m ([.ref x] : List Value).toArray below meth c H1 L 0 0 (MQ below (mm_Qc H (tw_M x ad) (mm_v (fun H2 => ∃ F2, TW G x ad I F2 H2 ∧ eqx [11] F F2 ∧ ∀ k, k < 200 → F2 11 k = nI 0))) ([.ref x] : List Value).toArray s 0 0 (mm_A (tw_M x ad) H)) (F0 m 2 ls []) := by
    intro fu; induction fu with
    | zero => intro i H1 F1 L ls hfu; exact absurd hfu (Nat.not_lt_zero _)
    | succ fu ih =>
      intro i H1 F1 L ls hfu hi hl hT he h0 hS
      have ih_2 := ih
      refine lv_iload_n hx hb dX8_clearReached_2 rfl (lv_at hl 0 rfl) ?_
      refine lv_sipush (v := nI 200) hx hb dX8_clearReached_3 (by decide) ?_
      refine mm_icmp_ge (tgt := 22) (by omega) (by omega) hx hb dX8_clearReached_6 (by decide) (fun c_6 => ?_) (fun c_6 => ?_)
      · exact mm_vret hx hb hr hlk hS (Nat.le_of_ble_eq_true rfl) (Nat.le_of_ble_eq_true rfl) (⟨rfl, F1, hT, he, fun k hk => h0 k (by omega)⟩) dX8_clearReached_22
      · refine lv_aload_n hx hb dX8_clearReached_9 rfl (lv_at hl 1 rfl) ?_
        refine tw_geta 11 hx hb hts hown hKK hT rfl rfl (hts _ q2509) dX8_clearReached_10 ?_
        refine lv_iload_n hx hb dX8_clearReached_13 rfl (lv_at hl 0 rfl) ?_
        refine lv_iconst (v := nI 0) hx hb dX8_clearReached_14 (by decide) ?_
        refine tw_st 11 (k := i) hx hb hKK hT hS hMa rfl rfl (by show _ < 200; omega) dX8_clearReached_15 (fun H_15 L_15 hT hz_15 hq_15 hS => ?_)
        refine lv_iinc (v := nI (i + 1)) (lv' := [(1, .int (nI (i + 1))), (0, .ref x)]) hx hb dX8_clearReached_16 hl (k := 0) rfl (nI_add _ _) (by decide) rfl (fun ls hl => ?_)
        refine lv_goto (tgt := 2) hx hb dX8_clearReached_19 (by decide) ?_
        exact ih_2 (i + 1) H_15 ((tw_u F1 11 i (nI 0))) _ _ (by omega) (by omega) (lv_sub hl [0, 1] rfl) hT (he.tr (eqx.u (by decide))) (fun k hk => by rw [tw_us]; by_cases z : k = i; rw [z]; exact pk_us; rw [pk_un z]; exact h0 k (by omega)) hS
  exact lp_2 _ 0 H F _ _ (Nat.lt_succ_self _) (by omega) (lv_sub hl [0, 1] rfl) hT eqx.rf (fun k hk => absurd hk (Nat.not_lt_zero _)) hS
set_option maxRecDepth 100000 in
theorem t_reachN (l : Launch) {G : mm_G} {P : mm_H} {H : Heap} {x : Nat} {ad : Nat → Nat} {I : Nat → Int32} {F : Nat → Nat → Int32} {S : sp_S} (h : Nat) {r : Nat} (hT : TW G x ad I F H) (hR : TR (F 0) S) (hW : WF S) (hg : Hgt S h r) : Mt l yX8_reach (ws_ yX8_reach cX8_reach 3 none) ((h + 2)) ((h * 60 + 60)) 0 0 G P [.ref x, .int (nI r)] H (tw_M x ad) (mm_v (fun H2 => ∃ F2, TW G x ad I F2 H2 ∧ eqx [11] F F2 ∧ ∀ k, k < 200 → F2 11 k = F 11 k + nI (List.count k (ndO S h (some r))))) := by
  induction h generalizing r F H with
  | zero => exact hg.elim
  | succ h ihr =>
    refine Mt.of (by decide) (Nat.le_of_ble_eq_true rfl) (fun p e s m below meth c ls hx hb hr hlk hml hown hnm hts hKK hsH hl hS => ?_)
    have hl : lv_has ls 3 [(0, .ref x), (1, .int (nI r))] := hl
    have hR0 := hR
    have hMx : mm_A (tw_M x ad) H x := Or.inl (Or.inl rfl)
    have hMa : ∀ j, tw_isA j = true → mm_A (tw_M x ad) H (ad j) := fun j hj => Or.inl (Or.inr ⟨j, hj, rfl⟩)
    have hnv := hW.nv
    have hnn := hW.nn
    have hk := hg.1
    have hc := hW.cnt hk
    refine lv_iload_n hx hb dX8_reach_0 rfl (lv_at hl 1 rfl) ?_
    refine lv_iconst (v := (-1)) hx hb dX8_reach_1 (by decide) ?_
    refine lv_icmp_ne (tgt := 6) hx hb dX8_reach_2 (by decide) (fun c_2 => ?_) (fun c_2 => ?_)
    · refine lv_aload_n hx hb dX8_reach_6 rfl (lv_at hl 0 rfl) ?_
      refine tw_geta 11 hx hb hts hown hKK hT rfl rfl (hts _ q2509) dX8_reach_7 ?_
      refine lv_iload_n hx hb dX8_reach_10 rfl (lv_at hl 1 rfl) ?_
      refine lv_dup2_11 hx hb dX8_reach_11 rfl rfl ?_
      refine mm_iald (k := r) hx hb hKK (hT.2.2 11 rfl) mm_le.rf (by show _ < 200; omega) (by decide) dX8_reach_12 ?_
      refine lv_iconst (v := nI 1) hx hb dX8_reach_13 (by decide) ?_
      refine lv_iadd hx hb dX8_reach_14 ?_
      refine tw_st 11 (k := r) hx hb hKK hT hS hMa rfl rfl (by show _ < 200; omega) dX8_reach_15 (fun H_15 L_15 hT hz_15 hq_15 hS => ?_)
      have hR := TRu (j := 11) (i := r) (v := F 11 r + nI 1) (by decide) hR
      refine lv_aload_n hx hb dX8_reach_16 rfl (lv_at hl 0 rfl) ?_
      refine lv_iload_n hx hb dX8_reach_17 rfl (lv_at hl 1 rfl) ?_
      refine mm_rpu (va_runV (As := [.int (nI r)]) (rest := []) ⟨hx, hb, hml, hown, hts⟩ (t_isLeafNode l hT hR hW (by first | assumption | omega)) (cwV 1 hts (lw_V q2793 q2795 qs101 q164 q2796) rfl rfl rfl (by decide +kernel) ⟨by simp only [mm_rm]; omega, by simp only [mm_rm]; omega⟩) (mm_pV hKK (mm_rc hKK hT.2.1 mm_le.rf rfl)) rfl rfl hl.1 rfl (lv_room (Nat.le_of_ble_eq_true rfl)) dX8_reach_18 ⟨Nat.le_of_ble_eq_true rfl, Nat.le_of_ble_eq_true rfl⟩) hS (mm_s0 hS) (fun L_18 hS => ?_)
      refine mm_ifeqB (tgt := 25) hx hb dX8_reach_21 (by decide) (fun c_21 => ?_) (fun c_21 => ?_)
      · refine lv_iconst (v := nI 0) hx hb dX8_reach_25 (by decide) ?_
        refine lv_istore_n (lv' := [(2, .int (nI 0)), (0, .ref x), (1, .int (nI r))]) hx hb dX8_reach_26 rfl hl (by decide) rfl (fun ls hl => ?_)
        have lp_27 : ∀ (fu : Nat) (i : Nat) (H1 : Heap) (F1 : Nat → Nat → Int32) (L : List Loc) (ls : Array Slot), s_cnt S r - i < fu → (i ≤ s_cnt S r) → lv_has ls 3 [(2, .int (nI i)), (0, .ref x), (1, .int (nI r))] → (TW G x ad I F1 H1) → (eqx [11] F F1) → (∀ k, k < 200 → F1 11 k = F 11 k + nI (List.count k (r :: (List.range i).flatMap (fun i => nds S h (s_chd S r i))))) → va_S (mm_A (tw_M x ad) H) H H1 L → W p l e (mm_rm (((h + 1) + 2)) (((h + 1) * 60 + 60)) 0 0) s m ([.ref x, .int (nI r)] : List Value).toArray below meth c H1 L 0 0 (MQ below (mm_Qc H (tw_M x ad) (mm_v (fun H2 => ∃ F2, TW G x ad I F2 H2 ∧ eqx [11] F F2 ∧ ∀ k, k < 200 → F2 11 k = F 11 k + nI (List.count k (ndO S (h + 1) (some r)))))) ([.ref x, .int (nI r)] : List Value).toArray s 0 0 (mm_A (tw_M x ad) H)) (F0 m 27 ls []) := by
          intro fu; induction fu with
          | zero => intro i H1 F1 L ls hfu; exact absurd hfu (Nat.not_lt_zero _)
          | succ fu ih =>
            intro i H1 F1 L ls hfu hi hl hT he h11 hS
            have ih_27 := ih
            have hR := TRx he (by decide) hR0
            refine lv_iload_n hx hb dX8_reach_27 rfl (lv_at hl 0 rfl) ?_
            refine lv_aload_n hx hb dX8_reach_28 rfl (lv_at hl 1 rfl) ?_
            refine lv_iload_n hx hb dX8_reach_29 rfl (lv_at hl 2 rfl) ?_
            refine mm_rpu (va_runV (As := [.int (nI r)]) (rest := [.int (nI i)]) ⟨hx, hb, hml, hown, hts⟩ (t_countOf l hT hR hW (by first | assumption | omega)) (cwV 1 hts (lw_V q2745 q2747 qs89 q164 q2748) rfl rfl rfl (by decide +kernel) ⟨by simp only [mm_rm]; omega, by simp only [mm_rm]; omega⟩) (mm_pV hKK (mm_rc hKK hT.2.1 mm_le.rf rfl)) rfl rfl hl.1 rfl (lv_room (Nat.le_of_ble_eq_true rfl)) dX8_reach_30 ⟨Nat.le_of_ble_eq_true rfl, Nat.le_of_ble_eq_true rfl⟩) hS (mm_s0 hS) (fun L_30 hS => ?_)
            refine mm_icmp_ge (tgt := 52) (by omega) (by omega) hx hb dX8_reach_33 (by decide) (fun c_33 => ?_) (fun c_33 => ?_)
            · exact mm_vret hx hb hr hlk hS (Nat.le_of_ble_eq_true rfl) (Nat.le_of_ble_eq_true rfl) (⟨rfl, _, hT, he, fun k hk => by rw [h11 k hk]; show _ = F 11 k + nI (List.count k (nds S (h + 1) r)); rw [nds_inner c_21, show s_cnt S r = i by omega]⟩) dX8_reach_52
            · refine lv_aload_n hx hb dX8_reach_36 rfl (lv_at hl 1 rfl) ?_
              refine lv_aload_n hx hb dX8_reach_37 rfl (lv_at hl 1 rfl) ?_
              refine lv_iload_n hx hb dX8_reach_38 rfl (lv_at hl 2 rfl) ?_
              refine lv_iload_n hx hb dX8_reach_39 rfl (lv_at hl 0 rfl) ?_
              refine mm_rpu (va_runV (As := [.int (nI r), .int (nI i)]) (rest := [.ref x]) ⟨hx, hb, hml, hown, hts⟩ (t_entry l hT hR hW (by first | assumption | omega) (by first | assumption | omega)) (cwV 2 hts (lw_V q2753 q2755 qs91 q164 q2756) rfl rfl rfl (by decide +kernel) ⟨by simp only [mm_rm]; omega, by simp only [mm_rm]; omega⟩) (mm_pV hKK (mm_rc hKK hT.2.1 mm_le.rf rfl)) rfl rfl hl.1 rfl (lv_room (Nat.le_of_ble_eq_true rfl)) dX8_reach_40 ⟨Nat.le_of_ble_eq_true rfl, Nat.le_of_ble_eq_true rfl⟩) hS (mm_s0 hS) (fun L_40 hS => ?_)
              refine mm_top (hW.ent hk c_21 (show i < s_cnt S r from c_33)).1 ?_
              refine mm_rv (va_runV (As := [.int (nI (s_chd S r i))]) (rest := []) ⟨hx, hb, hml, hown, hts⟩ (ihr hT hR (hg.chd c_21 (show i < s_cnt S r from c_33))) (cwV 1 hts (lw_V q2813 q2815 qs106 q164 q2816) rfl rfl rfl (by decide +kernel) ⟨by simp only [mm_rm]; omega, by simp only [mm_rm]; omega⟩) (mm_pV hKK (mm_rc hKK hT.2.1 mm_le.rf rfl)) rfl rfl hl.1 rfl (lv_room (Nat.le_of_ble_eq_true rfl)) dX8_reach_43 ⟨Nat.le_of_ble_eq_true rfl, Nat.le_of_ble_eq_true rfl⟩) hS (mm_sS hS) (fun H_43 L_43 hB_43 hz_43 hq_43 hS => ?_)
              obtain ⟨F_43, hT, he_43, h11_43⟩ := hB_43
              refine lv_iinc (v := nI (i + 1)) (lv' := [(2, .int (nI (i + 1))), (0, .ref x), (1, .int (nI r))]) hx hb dX8_reach_46 hl (k := 0) rfl (nI_add _ _) (by decide) rfl (fun ls hl => ?_)
              refine lv_goto (tgt := 27) hx hb dX8_reach_49 (by decide) ?_
              exact ih_27 (i + 1) H_43 F_43 _ _ (by omega) (by omega) (lv_sub hl [0, 1, 2] rfl) hT (he.tr he_43) (fun k hk => by rw [h11_43 k hk, h11 k hk]; exact rc_step) hS
        exact lp_27 _ 0 H_15 ((tw_u F 11 r ((F 11 r) + (nI 1)))) _ _ (Nat.lt_succ_self _) (by omega) (lv_sub hl [0, 1, 2] rfl) hT (eqx.u (by decide)) (fun k hk => by rw [tw_us]; exact rc_one) hS
      · exact mm_vret hx hb hr hlk hS (Nat.le_of_ble_eq_true rfl) (Nat.le_of_ble_eq_true rfl) (⟨rfl, _, hT, eqx.u (by decide), fun k hk => by rw [tw_us]; show _ = F 11 k + nI (List.count k (nds S (h + 1) r)); rw [nds_leaf c_21]; exact rc_one⟩) dX8_reach_24
    · exact absurd c_2 (nI_nm1 (by omega))
set_option maxRecDepth 100000 in
theorem t_reach0 (l : Launch) {G : mm_G} {P : mm_H} {H : Heap} {x : Nat} {ad : Nat → Nat} {I : Nat → Int32} {F : Nat → Nat → Int32} {S : sp_S} (h : Nat) (hT : TW G x ad I F H) (hR : TR (F 0) S) (hW : WF S) : Mt l yX8_reach (ws_ yX8_reach cX8_reach 3 none) ((h + 2)) ((h * 60 + 60)) 0 0 G P [.ref x, .int ((-1))] H (tw_M x ad) (mm_v (fun H2 => ∃ F2, TW G x ad I F2 H2 ∧ eqx [11] F F2 ∧ ∀ k, k < 200 → F2 11 k = F 11 k + nI (List.count k (ndO S h (none))))) := by
  refine Mt.of (by decide) (Nat.le_of_ble_eq_true rfl) (fun p e s m below meth c ls hx hb hr hlk hml hown hnm hts hKK hsH hl hS => ?_)
  have hl : lv_has ls 3 [(0, .ref x), (1, .int ((-1)))] := hl
  have hR0 := hR
  have hMx : mm_A (tw_M x ad) H x := Or.inl (Or.inl rfl)
  have hMa : ∀ j, tw_isA j = true → mm_A (tw_M x ad) H (ad j) := fun j hj => Or.inl (Or.inr ⟨j, hj, rfl⟩)
  have hnv := hW.nv
  have hnn := hW.nn
  refine lv_iload_n hx hb dX8_reach_0 rfl (lv_at hl 1 rfl) ?_
  refine lv_iconst (v := (-1)) hx hb dX8_reach_1 (by decide) ?_
  refine lv_icmp_ne (tgt := 6) hx hb dX8_reach_2 (by decide) (fun c_2 => ?_) (fun c_2 => ?_)
  · exact absurd rfl c_2
  · exact mm_vret hx hb hr hlk hS (Nat.le_of_ble_eq_true rfl) (Nat.le_of_ble_eq_true rfl) (⟨rfl, F, hT, eqx.rf, fun k _ => by show F 11 k = F 11 k + nI 0; rw [nI_0, Int32.add_zero]⟩) dX8_reach_5
theorem t_reach (l : Launch) {G : mm_G} {P : mm_H} {H : Heap} {x : Nat} {ad : Nat → Nat} {I : Nat → Int32} {F : Nat → Nat → Int32} {S : sp_S} (h : Nat) {o : Option Nat} (hT : TW G x ad I F H) (hR : TR (F 0) S) (hW : WF S) (hg : ∀ r, o = some r → Hgt S h r) : Mt l yX8_reach (ws_ yX8_reach cX8_reach 3 none) ((h + 2)) ((h * 60 + 60)) 0 0 G P [.ref x, .int (oI o)] H (tw_M x ad) (mm_v (fun H2 => ∃ F2, TW G x ad I F2 H2 ∧ eqx [11] F F2 ∧ ∀ k, k < 200 → F2 11 k = F 11 k + nI (List.count k (ndO S h (o))))) := by
  cases o with
  | none => exact t_reach0 l h hT hR hW
  | some r => exact t_reachN l h hT hR hW (hg r rfl)
set_option maxRecDepth 100000 in
theorem t_reachAll (l : Launch) {G : mm_G} {P : mm_H} {H : Heap} {x : Nat} {ad : Nat → Nat} {I : Nat → Int32} {F : Nat → Nat → Int32} {S : sp_S} (hT : TW G x ad I F H) (hR : TR (F 0) S) (hW : WF S) (hG : HG S) : Mt l yX8_reachAll (ws_ yX8_reachAll cX8_reachAll 2 none) 6 300 0 0 G P [.ref x] H (tw_M x ad) (mm_v (fun H2 => ∃ F2, TW G x ad I F2 H2 ∧ eqx [11] F F2 ∧ ∀ k, k < 200 → F2 11 k = nI (rcN S (s_nv S) k))) := by
  refine Mt.of (by decide) (Nat.le_of_ble_eq_true rfl) (fun p e s m below meth c ls hx hb hr hlk hml hown hnm hts hKK hsH hl hS => ?_)
  have hl : lv_has ls 2 [(0, .ref x)] := hl
  have hR0 := hR
  have hMx : mm_A (tw_M x ad) H x := Or.inl (Or.inl rfl)
  have hMa : ∀ j, tw_isA j = true → mm_A (tw_M x ad) H (ad j) := fun j hj => Or.inl (Or.inr ⟨j, hj, rfl⟩)
  have hnv := hW.nv
  have hnn := hW.nn
  refine lv_aload_n hx hb dX8_reachAll_0 rfl (lv_at hl 0 rfl) ?_
  refine mm_rv (va_runV (As := []) (rest := []) ⟨hx, hb, hml, hown, hts⟩ (t_clearReached l hT) (cwV 0 hts (lw_V q2809 q2811 qs105 q164 q2812) rfl rfl rfl (by decide +kernel) ⟨Nat.le_of_ble_eq_true rfl, Nat.le_of_ble_eq_true rfl⟩) (mm_pV hKK (mm_rc hKK hT.2.1 mm_le.rf rfl)) rfl rfl hl.1 rfl (lv_room (Nat.le_of_ble_eq_true rfl)) dX8_reachAll_1 ⟨Nat.le_of_ble_eq_true rfl, Nat.le_of_ble_eq_true rfl⟩) hS (mm_sS hS) (fun H_1 L_1 hB_1 hz_1 hq_1 hS => ?_)
  obtain ⟨F_1, hT, he_1, h0_1⟩ := hB_1
  have hR := TRx he_1 (by decide) hR
  refine lv_iconst (v := nI 0) hx hb dX8_reachAll_4 (by decide) ?_
  refine lv_istore_n (lv' := [(1, .int (nI 0)), (0, .ref x)]) hx hb dX8_reachAll_5 rfl hl (by decide) rfl (fun ls hl => ?_)
  have lp_6 : ∀ (fu : Nat) (v : Nat) (H1 : Heap) (F1 : Nat → Nat → Int32) (L : List Loc) (ls : Array Slot), s_nv S - v < fu → (v ≤ s_nv S) → lv_has ls 2 [(1, .int (nI v)), (0, .ref x)] → (TW G x ad I F1 H1) → (eqx [11] F F1) → (∀ k, k < 200 → F1 11 k = nI (rcN S v k)) → va_S (mm_A (tw_M x ad) H) H H1 L → W p l e (mm_rm 6 300 0 0) s m ([.ref x] : List Value).toArray below meth c H1 L 0 0 (MQ below (mm_Qc H (tw_M x ad) (mm_v (fun H2 => ∃ F2, TW G x ad I F2 H2 ∧ eqx [11] F F2 ∧ ∀ k, k < 200 → F2 11 k = nI (rcN S (s_nv S) k)))) ([.ref x] : List Value).toArray s 0 0 (mm_A (tw_M x ad) H)) (F0 m 6 ls []) := by
    intro fu; induction fu with
    | zero => intro v H1 F1 L ls hfu; exact absurd hfu (Nat.not_lt_zero _)
    | succ fu ih =>
      intro v H1 F1 L ls hfu hv9 hl hT he h11 hS
      have ih_6 := ih
      have hR := TRx he (by decide) hR0
      refine lv_iload_n hx hb dX8_reachAll_6 rfl (lv_at hl 0 rfl) ?_
      refine lv_aload_n hx hb dX8_reachAll_7 rfl (lv_at hl 1 rfl) ?_
      refine tw_geta 0 hx hb hts hown hKK hT rfl rfl (hts _ q2498) dX8_reachAll_8 ?_
      refine lv_iconst (v := nI 0) hx hb dX8_reachAll_11 (by decide) ?_
      refine mm_iald (k := 0) hx hb hKK (hT.2.2 0 rfl) mm_le.rf (by show _ < 4210; omega) (by decide) dX8_reachAll_12 ?_
      refine mm_top (y := nI (s_nv S)) (hR.nv) ?_
      refine mm_icmp_ge (tgt := 39) (by omega) (by omega) hx hb dX8_reachAll_13 (by decide) (fun c_13 => ?_) (fun c_13 => ?_)
      · exact mm_vret hx hb hr hlk hS (Nat.le_of_ble_eq_true rfl) (Nat.le_of_ble_eq_true rfl) (⟨rfl, F1, hT, he, fun k hk => by rw [h11 k hk, show v = s_nv S by omega]⟩) dX8_reachAll_39
      · refine lv_aload_n hx hb dX8_reachAll_16 rfl (lv_at hl 1 rfl) ?_
        refine lv_iload_n hx hb dX8_reachAll_17 rfl (lv_at hl 0 rfl) ?_
        refine mm_rpu (va_runV (As := [.int (nI v)]) (rest := []) ⟨hx, hb, hml, hown, hts⟩ (t_isGone l hT hR hW (by first | assumption | omega)) (cwV 1 hts (lw_V q2717 q2719 qs82 q164 q2720) rfl rfl rfl (by decide +kernel) ⟨Nat.le_of_ble_eq_true rfl, Nat.le_of_ble_eq_true rfl⟩) (mm_pV hKK (mm_rc hKK hT.2.1 mm_le.rf rfl)) rfl rfl hl.1 rfl (lv_room (Nat.le_of_ble_eq_true rfl)) dX8_reachAll_18 ⟨Nat.le_of_ble_eq_true rfl, Nat.le_of_ble_eq_true rfl⟩) hS (mm_s0 hS) (fun L_18 hS => ?_)
        refine mm_ifneB (tgt := 33) hx hb dX8_reachAll_21 (by decide) (fun c_21 => ?_) (fun c_21 => ?_)
        · refine lv_iinc (v := nI (v + 1)) (lv' := [(1, .int (nI (v + 1))), (0, .ref x)]) hx hb dX8_reachAll_33 hl (k := 0) rfl (nI_add _ _) (by decide) rfl (fun ls hl => ?_)
          refine lv_goto (tgt := 6) hx hb dX8_reachAll_36 (by decide) ?_
          exact ih_6 (v + 1) H1 F1 _ _ (by omega) (by omega) (lv_sub hl [0, 1] rfl) hT he (fun k hk => by rw [h11 k hk, rcN_succ, if_pos c_21, Nat.add_zero]) hS
        · have hh3 := hf_le (s_len S v)
          refine lv_aload_n hx hb dX8_reachAll_24 rfl (lv_at hl 1 rfl) ?_
          refine lv_aload_n hx hb dX8_reachAll_25 rfl (lv_at hl 1 rfl) ?_
          refine lv_iload_n hx hb dX8_reachAll_26 rfl (lv_at hl 0 rfl) ?_
          refine mm_rpu (va_runV (As := [.int (nI v)]) (rest := [.ref x]) ⟨hx, hb, hml, hown, hts⟩ (t_root l hT hR hW (by first | assumption | omega)) (cwV 1 hts (lw_V q2729 q2731 qs85 q164 q2732) rfl rfl rfl (by decide +kernel) ⟨Nat.le_of_ble_eq_true rfl, Nat.le_of_ble_eq_true rfl⟩) (mm_pV hKK (mm_rc hKK hT.2.1 mm_le.rf rfl)) rfl rfl hl.1 rfl (lv_room (Nat.le_of_ble_eq_true rfl)) dX8_reachAll_27 ⟨Nat.le_of_ble_eq_true rfl, Nat.le_of_ble_eq_true rfl⟩) hS (mm_s0 hS) (fun L_27 hS => ?_)
          refine mm_rv (va_runV (As := [.int (oI (s_root S v))]) (rest := []) ⟨hx, hb, hml, hown, hts⟩ (t_reach l (hf (s_len S v)) hT hR hW (hG v (show v < s_nv S from c_13) c_21)) (cwV 1 hts (lw_V q2813 q2815 qs106 q164 q2816) rfl rfl rfl (by decide +kernel) ⟨by simp only [mm_rm]; omega, by simp only [mm_rm]; omega⟩) (mm_pV hKK (mm_rc hKK hT.2.1 mm_le.rf rfl)) rfl rfl hl.1 rfl (lv_room (Nat.le_of_ble_eq_true rfl)) dX8_reachAll_30 ⟨Nat.le_of_ble_eq_true rfl, Nat.le_of_ble_eq_true rfl⟩) hS (mm_sS hS) (fun H_30 L_30 hB_30 hz_30 hq_30 hS => ?_)
          obtain ⟨F_30, hT, he_30, h11_30⟩ := hB_30
          refine lv_iinc (v := nI (v + 1)) (lv' := [(1, .int (nI (v + 1))), (0, .ref x)]) hx hb dX8_reachAll_33 hl (k := 0) rfl (nI_add _ _) (by decide) rfl (fun ls hl => ?_)
          refine lv_goto (tgt := 6) hx hb dX8_reachAll_36 (by decide) ?_
          exact ih_6 (v + 1) H_30 F_30 _ _ (by omega) (by omega) (lv_sub hl [0, 1] rfl) hT (he.tr he_30) (fun k hk => by rw [h11_30 k hk, h11 k hk, nI_add, rcN_succ, if_neg (by rw [c_21]; decide), hG.tne (show v < s_nv S from c_13) c_21]) hS
  exact lp_6 _ 0 H_1 F_1 _ _ (Nat.lt_succ_self _) (by omega) (lv_sub hl [0, 1] rfl) hT he_1 (fun k hk => h0_1 k hk) hS
set_option maxRecDepth 100000 in
theorem t_countGarbage (l : Launch) {G : mm_G} {P : mm_H} {H : Heap} {x : Nat} {ad : Nat → Nat} {I : Nat → Int32} {F : Nat → Nat → Int32} {S : sp_S} (hT : TW G x ad I F H) (hR : TR (F 0) S) (hW : WF S) (hG : HG S) : Mt l yX8_countGarbage (ws_ yX8_countGarbage cX8_countGarbage 3 (some .int)) 7 340 0 0 G P [.ref x] H (tw_M x ad) (mm_i (nI (s_garb S)) (fun H2 => ∃ F2, TW G x ad I F2 H2 ∧ eqx [11] F F2 ∧ ∀ k, k < 200 → F2 11 k = nI (rcN S (s_nv S) k))) := by
  refine Mt.of (by decide) (Nat.le_of_ble_eq_true rfl) (fun p e s m below meth c ls hx hb hr hlk hml hown hnm hts hKK hsH hl hS => ?_)
  have hl : lv_has ls 3 [(0, .ref x)] := hl
  have hR0 := hR
  have hMx : mm_A (tw_M x ad) H x := Or.inl (Or.inl rfl)
  have hMa : ∀ j, tw_isA j = true → mm_A (tw_M x ad) H (ad j) := fun j hj => Or.inl (Or.inr ⟨j, hj, rfl⟩)
  have hnv := hW.nv
  have hnn := hW.nn
  refine lv_aload_n hx hb dX8_countGarbage_0 rfl (lv_at hl 0 rfl) ?_
  refine mm_rv (va_runV (As := []) (rest := []) ⟨hx, hb, hml, hown, hts⟩ (t_reachAll l hT hR hW hG) (cwV 0 hts (lw_V q2805 q2807 qs104 q164 q2808) rfl rfl rfl (by decide +kernel) ⟨Nat.le_of_ble_eq_true rfl, Nat.le_of_ble_eq_true rfl⟩) (mm_pV hKK (mm_rc hKK hT.2.1 mm_le.rf rfl)) rfl rfl hl.1 rfl (lv_room (Nat.le_of_ble_eq_true rfl)) dX8_countGarbage_1 ⟨Nat.le_of_ble_eq_true rfl, Nat.le_of_ble_eq_true rfl⟩) hS (mm_sS hS) (fun H_1 L_1 hB_1 hz_1 hq_1 hS => ?_)
  obtain ⟨F_1, hT, he_1, h11_1⟩ := hB_1
  have hR := TRx he_1 (by decide) hR
  refine lv_iconst (v := nI 0) hx hb dX8_countGarbage_4 (by decide) ?_
  refine lv_istore_n (lv' := [(1, .int (nI 0)), (0, .ref x)]) hx hb dX8_countGarbage_5 rfl hl (by decide) rfl (fun ls hl => ?_)
  refine lv_iconst (v := nI 0) hx hb dX8_countGarbage_6 (by decide) ?_
  refine lv_istore_n (lv' := [(2, .int (nI 0)), (1, .int (nI 0)), (0, .ref x)]) hx hb dX8_countGarbage_7 rfl hl (by decide) rfl (fun ls hl => ?_)
  have lp_8 : ∀ (fu : Nat) (i : Nat)  (L : List Loc) (ls : Array Slot), s_nn S - i < fu → (i ≤ s_nn S) → lv_has ls 3 [(1, .int (nI (cB i (fun k => s_sto S k && !rch S k)))), (2, .int (nI i)), (0, .ref x)] → va_S (mm_A (tw_M x ad) H) H H_1 L → W p l e (mm_rm 7 340 0 0) s m ([.ref x] : List Value).toArray below meth c H_1 L 0 0 (MQ below (mm_Qc H (tw_M x ad) (mm_i (nI (s_garb S)) (fun H2 => ∃ F2, TW G x ad I F2 H2 ∧ eqx [11] F F2 ∧ ∀ k, k < 200 → F2 11 k = nI (rcN S (s_nv S) k)))) ([.ref x] : List Value).toArray s 0 0 (mm_A (tw_M x ad) H)) (F0 m 8 ls []) := by
    intro fu; induction fu with
    | zero => intro i L ls hfu; exact absurd hfu (Nat.not_lt_zero _)
    | succ fu ih =>
      intro i L ls hfu hi hl  hS
      have ih_8 := ih
      have hcb := cB_le i (fun k => s_sto S k && !rch S k)
      have hrl := rcN_le hG hW i (s_nv S) (Nat.le_refl _)
      refine lv_iload_n hx hb dX8_countGarbage_8 rfl (lv_at hl 1 rfl) ?_
      refine lv_aload_n hx hb dX8_countGarbage_9 rfl (lv_at hl 2 rfl) ?_
      refine tw_geta 0 hx hb hts hown hKK hT rfl rfl (hts _ q2498) dX8_countGarbage_10 ?_
      refine lv_iconst (v := nI 1) hx hb dX8_countGarbage_13 (by decide) ?_
      refine mm_iald (k := 1) hx hb hKK (hT.2.2 0 rfl) mm_le.rf (by show _ < 4210; omega) (by decide) dX8_countGarbage_14 ?_
      refine mm_top (y := nI (s_nn S)) (hR.nn) ?_
      refine mm_icmp_ge (tgt := 52) (by omega) (by omega) hx hb dX8_countGarbage_15 (by decide) (fun c_15 => ?_) (fun c_15 => ?_)
      · refine lv_iload_n hx hb dX8_countGarbage_52 rfl (lv_at hl 0 rfl) ?_
        exact mm_iret (v := nI (cB i (fun k => s_sto S k && !rch S k))) hx hb hr hlk hS (Nat.le_of_ble_eq_true rfl) (Nat.le_of_ble_eq_true rfl) (⟨by rw [show i = s_nn S by omega]; rfl, F_1, hT, he_1, h11_1⟩) dX8_countGarbage_53
      · refine lv_iload_n hx hb dX8_countGarbage_18 rfl (lv_at hl 0 rfl) ?_
        refine lv_aload_n hx hb dX8_countGarbage_19 rfl (lv_at hl 2 rfl) ?_
        refine lv_iload_n hx hb dX8_countGarbage_20 rfl (lv_at hl 1 rfl) ?_
        refine mm_rpu (va_runV (As := [.int (nI i)]) (rest := [.int (nI (cB i (fun k => s_sto S k && !rch S k)))]) ⟨hx, hb, hml, hown, hts⟩ (t_isStored l hT hR hW) (cwV 1 hts (lw_V q2817 q2819 qs107 q164 q2820) rfl rfl rfl (by decide +kernel) ⟨Nat.le_of_ble_eq_true rfl, Nat.le_of_ble_eq_true rfl⟩) (mm_pV hKK (mm_rc hKK hT.2.1 mm_le.rf rfl)) rfl rfl hl.1 rfl (lv_room (Nat.le_of_ble_eq_true rfl)) dX8_countGarbage_21 ⟨Nat.le_of_ble_eq_true rfl, Nat.le_of_ble_eq_true rfl⟩) hS (mm_s0 hS) (fun L_21 hS => ?_)
        refine mm_top (y := mm_b (s_sto S i)) (congrArg mm_b (isSt_n (by first | assumption | omega) hnn)) ?_
        refine mm_ifeqB (tgt := 40) hx hb dX8_countGarbage_24 (by decide) (fun c_24 => ?_) (fun c_24 => ?_)
        · refine lv_iconst (v := nI 0) hx hb dX8_countGarbage_40 (by decide) ?_
          refine mm_top (y := mm_b false) rfl ?_
          refine mm_rpu (va_runS (As := [.int (mm_b false)]) (rest := [.int (nI (cB i (fun k => s_sto S k && !rch S k)))]) ⟨hx, hb, hml, hown, hts⟩ (t_one l ) (va_cwS 1 hts (lw_S q2467 q2468 q164 q2469) rfl rfl rfl (by decide +kernel) ⟨Nat.le_of_ble_eq_true rfl, Nat.le_of_ble_eq_true rfl⟩) (mm_pS hKK) rfl rfl hl.1 rfl (lv_room (Nat.le_of_ble_eq_true rfl)) dX8_countGarbage_41 ⟨Nat.le_of_ble_eq_true rfl, Nat.le_of_ble_eq_true rfl⟩) hS (mm_s0 hS) (fun L_41 hS => ?_)
          refine mm_top (y := nI 0) rfl ?_
          refine mm_iadd hx hb dX8_countGarbage_44 ?_
          refine mm_top (y := nI (cB i (fun k => s_sto S k && !rch S k))) (congrArg nI (by omega)) ?_
          refine mm_top (y := nI (cB (i + 1) (fun k => s_sto S k && !rch S k))) (congrArg nI (by rw [cB_succ]; simp [c_24])) ?_
          refine lv_istore_n (lv' := [(1, .int (nI (cB (i + 1) (fun k => s_sto S k && !rch S k)))), (2, .int (nI i)), (0, .ref x)]) hx hb dX8_countGarbage_45 rfl hl (by decide) rfl (fun ls hl => ?_)
          refine lv_iinc (v := nI (i + 1)) (lv' := [(2, .int (nI (i + 1))), (1, .int (nI (cB (i + 1) (fun k => s_sto S k && !rch S k)))), (0, .ref x)]) hx hb dX8_countGarbage_46 hl (k := 1) rfl (nI_add _ _) (by decide) rfl (fun ls hl => ?_)
          refine lv_goto (tgt := 8) hx hb dX8_countGarbage_49 (by decide) ?_
          exact ih_8 (i + 1) _ _ (by omega) (by omega) (lv_sub hl [1, 0, 2] rfl)  hS
        · refine lv_aload_n hx hb dX8_countGarbage_27 rfl (lv_at hl 2 rfl) ?_
          refine tw_geta 11 hx hb hts hown hKK hT rfl rfl (hts _ q2509) dX8_countGarbage_28 ?_
          refine lv_iload_n hx hb dX8_countGarbage_31 rfl (lv_at hl 1 rfl) ?_
          refine mm_iald (k := i) hx hb hKK (hT.2.2 11 rfl) mm_le.rf (by show _ < 200; omega) (by decide) dX8_countGarbage_32 ?_
          refine mm_top (y := nI (rcN S (s_nv S) i)) (h11_1 _ (by omega)) ?_
          refine mm_if_ne (tgt := 40) (by omega) hx hb dX8_countGarbage_33 (by decide) (fun c_33 => ?_) (fun c_33 => ?_)
          · have hrc : rch S i = true := (rch_pos i).mp (by omega)
            refine lv_iconst (v := nI 0) hx hb dX8_countGarbage_40 (by decide) ?_
            refine mm_top (y := mm_b false) rfl ?_
            refine mm_rpu (va_runS (As := [.int (mm_b false)]) (rest := [.int (nI (cB i (fun k => s_sto S k && !rch S k)))]) ⟨hx, hb, hml, hown, hts⟩ (t_one l ) (va_cwS 1 hts (lw_S q2467 q2468 q164 q2469) rfl rfl rfl (by decide +kernel) ⟨Nat.le_of_ble_eq_true rfl, Nat.le_of_ble_eq_true rfl⟩) (mm_pS hKK) rfl rfl hl.1 rfl (lv_room (Nat.le_of_ble_eq_true rfl)) dX8_countGarbage_41 ⟨Nat.le_of_ble_eq_true rfl, Nat.le_of_ble_eq_true rfl⟩) hS (mm_s0 hS) (fun L_41 hS => ?_)
            refine mm_top (y := nI 0) rfl ?_
            refine mm_iadd hx hb dX8_countGarbage_44 ?_
            refine mm_top (y := nI (cB i (fun k => s_sto S k && !rch S k))) (congrArg nI (by omega)) ?_
            refine mm_top (y := nI (cB (i + 1) (fun k => s_sto S k && !rch S k))) (congrArg nI (by rw [cB_succ]; simp [c_24, hrc])) ?_
            refine lv_istore_n (lv' := [(1, .int (nI (cB (i + 1) (fun k => s_sto S k && !rch S k)))), (2, .int (nI i)), (0, .ref x)]) hx hb dX8_countGarbage_45 rfl hl (by decide) rfl (fun ls hl => ?_)
            refine lv_iinc (v := nI (i + 1)) (lv' := [(2, .int (nI (i + 1))), (1, .int (nI (cB (i + 1) (fun k => s_sto S k && !rch S k)))), (0, .ref x)]) hx hb dX8_countGarbage_46 hl (k := 1) rfl (nI_add _ _) (by decide) rfl (fun ls hl => ?_)
            refine lv_goto (tgt := 8) hx hb dX8_countGarbage_49 (by decide) ?_
            exact ih_8 (i + 1) _ _ (by omega) (by omega) (lv_sub hl [1, 0, 2] rfl)  hS
          · have hrc : rch S i = false := by cases z : rch S i with | false => rfl | true => have := (rch_pos i).mpr z; omega
            refine lv_iconst (v := nI 1) hx hb dX8_countGarbage_36 (by decide) ?_
            refine lv_goto (tgt := 41) hx hb dX8_countGarbage_37 (by decide) ?_
            refine mm_top (y := mm_b true) rfl ?_
            refine mm_rpu (va_runS (As := [.int (mm_b true)]) (rest := [.int (nI (cB i (fun k => s_sto S k && !rch S k)))]) ⟨hx, hb, hml, hown, hts⟩ (t_one l ) (va_cwS 1 hts (lw_S q2467 q2468 q164 q2469) rfl rfl rfl (by decide +kernel) ⟨Nat.le_of_ble_eq_true rfl, Nat.le_of_ble_eq_true rfl⟩) (mm_pS hKK) rfl rfl hl.1 rfl (lv_room (Nat.le_of_ble_eq_true rfl)) dX8_countGarbage_41 ⟨Nat.le_of_ble_eq_true rfl, Nat.le_of_ble_eq_true rfl⟩) hS (mm_s0 hS) (fun L_41 hS => ?_)
            refine mm_top (y := nI 1) rfl ?_
            refine mm_iadd hx hb dX8_countGarbage_44 ?_
            refine mm_top (y := nI (cB (i + 1) (fun k => s_sto S k && !rch S k))) (congrArg nI (by rw [cB_succ]; simp [c_24, hrc])) ?_
            refine lv_istore_n (lv' := [(1, .int (nI (cB (i + 1) (fun k => s_sto S k && !rch S k)))), (2, .int (nI i)), (0, .ref x)]) hx hb dX8_countGarbage_45 rfl hl (by decide) rfl (fun ls hl => ?_)
            refine lv_iinc (v := nI (i + 1)) (lv' := [(2, .int (nI (i + 1))), (1, .int (nI (cB (i + 1) (fun k => s_sto S k && !rch S k)))), (0, .ref x)]) hx hb dX8_countGarbage_46 hl (k := 1) rfl (nI_add _ _) (by decide) rfl (fun ls hl => ?_)
            refine lv_goto (tgt := 8) hx hb dX8_countGarbage_49 (by decide) ?_
            exact ih_8 (i + 1) _ _ (by omega) (by omega) (lv_sub hl [1, 0, 2] rfl)  hS
  exact lp_8 _ 0 _ _ (Nat.lt_succ_self _) (by omega) (lv_sub hl [1, 0, 2] rfl)  hS
set_option maxRecDepth 100000 in
theorem t_countGarbageOf (l : Launch) {G : mm_G} {P : mm_H} {H : Heap} {x : Nat} {ad : Nat → Nat} {I : Nat → Int32} {F : Nat → Nat → Int32} {S : sp_S} (hT : TW G x ad I F H) (hR : TR (F 0) S) (hW : WF S) (hG : HG S) (h11 : ∀ k, k < 200 → F 11 k = nI (rcN S (s_nv S) k)) : Mt l yX8_countGarbageOf (ws_ yX8_countGarbageOf cX8_countGarbageOf 3 (some .int)) 3 60 0 0 G P [.ref x] H mm_0 (mm_pu (.int (nI (s_garb S))) H) := by
  refine Mt.of (by decide) (Nat.le_of_ble_eq_true rfl) (fun p e s m below meth c ls hx hb hr hlk hml hown hnm hts hKK hsH hl hS => ?_)
  have hl : lv_has ls 3 [(0, .ref x)] := hl
  have hnv := hW.nv
  have hnn := hW.nn
  refine lv_iconst (v := nI 0) hx hb dX8_countGarbageOf_0 (by decide) ?_
  refine lv_istore_n (lv' := [(1, .int (nI 0)), (0, .ref x)]) hx hb dX8_countGarbageOf_1 rfl hl (by decide) rfl (fun ls hl => ?_)
  refine lv_iconst (v := nI 0) hx hb dX8_countGarbageOf_2 (by decide) ?_
  refine lv_istore_n (lv' := [(2, .int (nI 0)), (1, .int (nI 0)), (0, .ref x)]) hx hb dX8_countGarbageOf_3 rfl hl (by decide) rfl (fun ls hl => ?_)
  have lp_4 : ∀ (fu : Nat) (i : Nat)  (L : List Loc) (ls : Array Slot), s_nn S - i < fu → (i ≤ s_nn S) → lv_has ls 3 [(1, .int (nI (cB i (fun k => s_sto S k && !rch S k)))), (2, .int (nI i)), (0, .ref x)] → va_S (mm_A mm_0 H) H H L → W p l e (mm_rm 3 60 0 0) s m ([.ref x] : List Value).toArray below meth c H L 0 0 (MQ below (mm_Qc H mm_0 (mm_pu (.int (nI (s_garb S))) H)) ([.ref x] : List Value).toArray s 0 0 (mm_A mm_0 H)) (F0 m 4 ls []) := by
    intro fu; induction fu with
    | zero => intro i L ls hfu; exact absurd hfu (Nat.not_lt_zero _)
    | succ fu ih =>
      intro i L ls hfu hi hl  hS
      have ih_4 := ih
      have hcb := cB_le i (fun k => s_sto S k && !rch S k)
      have hrl := rcN_le hG hW i (s_nv S) (Nat.le_refl _)
      refine lv_iload_n hx hb dX8_countGarbageOf_4 rfl (lv_at hl 1 rfl) ?_
      refine lv_aload_n hx hb dX8_countGarbageOf_5 rfl (lv_at hl 2 rfl) ?_
      refine tw_geta 0 hx hb hts hown hKK hT rfl rfl (hts _ q2498) dX8_countGarbageOf_6 ?_
      refine lv_iconst (v := nI 1) hx hb dX8_countGarbageOf_9 (by decide) ?_
      refine mm_iald (k := 1) hx hb hKK (hT.2.2 0 rfl) mm_le.rf (by show _ < 4210; omega) (by decide) dX8_countGarbageOf_10 ?_
      refine mm_top (y := nI (s_nn S)) (hR.nn) ?_
      refine mm_icmp_ge (tgt := 48) (by omega) (by omega) hx hb dX8_countGarbageOf_11 (by decide) (fun c_11 => ?_) (fun c_11 => ?_)
      · refine lv_iload_n hx hb dX8_countGarbageOf_48 rfl (lv_at hl 0 rfl) ?_
        exact mm_iret (v := nI (cB i (fun k => s_sto S k && !rch S k))) hx hb hr hlk hS (Nat.le_of_ble_eq_true rfl) (Nat.le_of_ble_eq_true rfl) (⟨by rw [show i = s_nn S by omega]; rfl, rfl⟩) dX8_countGarbageOf_49
      · refine lv_iload_n hx hb dX8_countGarbageOf_14 rfl (lv_at hl 0 rfl) ?_
        refine lv_aload_n hx hb dX8_countGarbageOf_15 rfl (lv_at hl 2 rfl) ?_
        refine lv_iload_n hx hb dX8_countGarbageOf_16 rfl (lv_at hl 1 rfl) ?_
        refine mm_rpu (va_runV (As := [.int (nI i)]) (rest := [.int (nI (cB i (fun k => s_sto S k && !rch S k)))]) ⟨hx, hb, hml, hown, hts⟩ (t_isStored l hT hR hW) (cwV 1 hts (lw_V q2817 q2819 qs107 q164 q2820) rfl rfl rfl (by decide +kernel) ⟨Nat.le_of_ble_eq_true rfl, Nat.le_of_ble_eq_true rfl⟩) (mm_pV hKK (mm_rc hKK hT.2.1 mm_le.rf rfl)) rfl rfl hl.1 rfl (lv_room (Nat.le_of_ble_eq_true rfl)) dX8_countGarbageOf_17 ⟨Nat.le_of_ble_eq_true rfl, Nat.le_of_ble_eq_true rfl⟩) hS (mm_s0 hS) (fun L_17 hS => ?_)
        refine mm_top (y := mm_b (s_sto S i)) (congrArg mm_b (isSt_n (by first | assumption | omega) hnn)) ?_
        refine mm_ifeqB (tgt := 36) hx hb dX8_countGarbageOf_20 (by decide) (fun c_20 => ?_) (fun c_20 => ?_)
        · refine lv_iconst (v := nI 0) hx hb dX8_countGarbageOf_36 (by decide) ?_
          refine mm_top (y := mm_b false) rfl ?_
          refine mm_rpu (va_runS (As := [.int (mm_b false)]) (rest := [.int (nI (cB i (fun k => s_sto S k && !rch S k)))]) ⟨hx, hb, hml, hown, hts⟩ (t_one l ) (va_cwS 1 hts (lw_S q2467 q2468 q164 q2469) rfl rfl rfl (by decide +kernel) ⟨Nat.le_of_ble_eq_true rfl, Nat.le_of_ble_eq_true rfl⟩) (mm_pS hKK) rfl rfl hl.1 rfl (lv_room (Nat.le_of_ble_eq_true rfl)) dX8_countGarbageOf_37 ⟨Nat.le_of_ble_eq_true rfl, Nat.le_of_ble_eq_true rfl⟩) hS (mm_s0 hS) (fun L_37 hS => ?_)
          refine mm_top (y := nI 0) rfl ?_
          refine mm_iadd hx hb dX8_countGarbageOf_40 ?_
          refine mm_top (y := nI (cB i (fun k => s_sto S k && !rch S k))) (congrArg nI (by omega)) ?_
          refine mm_top (y := nI (cB (i + 1) (fun k => s_sto S k && !rch S k))) (congrArg nI (by rw [cB_succ]; simp [c_20])) ?_
          refine lv_istore_n (lv' := [(1, .int (nI (cB (i + 1) (fun k => s_sto S k && !rch S k)))), (2, .int (nI i)), (0, .ref x)]) hx hb dX8_countGarbageOf_41 rfl hl (by decide) rfl (fun ls hl => ?_)
          refine lv_iinc (v := nI (i + 1)) (lv' := [(2, .int (nI (i + 1))), (1, .int (nI (cB (i + 1) (fun k => s_sto S k && !rch S k)))), (0, .ref x)]) hx hb dX8_countGarbageOf_42 hl (k := 1) rfl (nI_add _ _) (by decide) rfl (fun ls hl => ?_)
          refine lv_goto (tgt := 4) hx hb dX8_countGarbageOf_45 (by decide) ?_
          exact ih_4 (i + 1) _ _ (by omega) (by omega) (lv_sub hl [1, 0, 2] rfl)  hS
        · refine lv_aload_n hx hb dX8_countGarbageOf_23 rfl (lv_at hl 2 rfl) ?_
          refine tw_geta 11 hx hb hts hown hKK hT rfl rfl (hts _ q2509) dX8_countGarbageOf_24 ?_
          refine lv_iload_n hx hb dX8_countGarbageOf_27 rfl (lv_at hl 1 rfl) ?_
          refine mm_iald (k := i) hx hb hKK (hT.2.2 11 rfl) mm_le.rf (by show _ < 200; omega) (by decide) dX8_countGarbageOf_28 ?_
          refine mm_top (y := nI (rcN S (s_nv S) i)) (h11 _ (by omega)) ?_
          refine mm_if_ne (tgt := 36) (by omega) hx hb dX8_countGarbageOf_29 (by decide) (fun c_29 => ?_) (fun c_29 => ?_)
          · have hrc : rch S i = true := (rch_pos i).mp (by omega)
            refine lv_iconst (v := nI 0) hx hb dX8_countGarbageOf_36 (by decide) ?_
            refine mm_top (y := mm_b false) rfl ?_
            refine mm_rpu (va_runS (As := [.int (mm_b false)]) (rest := [.int (nI (cB i (fun k => s_sto S k && !rch S k)))]) ⟨hx, hb, hml, hown, hts⟩ (t_one l ) (va_cwS 1 hts (lw_S q2467 q2468 q164 q2469) rfl rfl rfl (by decide +kernel) ⟨Nat.le_of_ble_eq_true rfl, Nat.le_of_ble_eq_true rfl⟩) (mm_pS hKK) rfl rfl hl.1 rfl (lv_room (Nat.le_of_ble_eq_true rfl)) dX8_countGarbageOf_37 ⟨Nat.le_of_ble_eq_true rfl, Nat.le_of_ble_eq_true rfl⟩) hS (mm_s0 hS) (fun L_37 hS => ?_)
            refine mm_top (y := nI 0) rfl ?_
            refine mm_iadd hx hb dX8_countGarbageOf_40 ?_
            refine mm_top (y := nI (cB i (fun k => s_sto S k && !rch S k))) (congrArg nI (by omega)) ?_
            refine mm_top (y := nI (cB (i + 1) (fun k => s_sto S k && !rch S k))) (congrArg nI (by rw [cB_succ]; simp [c_20, hrc])) ?_
            refine lv_istore_n (lv' := [(1, .int (nI (cB (i + 1) (fun k => s_sto S k && !rch S k)))), (2, .int (nI i)), (0, .ref x)]) hx hb dX8_countGarbageOf_41 rfl hl (by decide) rfl (fun ls hl => ?_)
            refine lv_iinc (v := nI (i + 1)) (lv' := [(2, .int (nI (i + 1))), (1, .int (nI (cB (i + 1) (fun k => s_sto S k && !rch S k)))), (0, .ref x)]) hx hb dX8_countGarbageOf_42 hl (k := 1) rfl (nI_add _ _) (by decide) rfl (fun ls hl => ?_)
            refine lv_goto (tgt := 4) hx hb dX8_countGarbageOf_45 (by decide) ?_
            exact ih_4 (i + 1) _ _ (by omega) (by omega) (lv_sub hl [1, 0, 2] rfl)  hS
          · have hrc : rch S i = false := by cases z : rch S i with | false => rfl | true => have := (rch_pos i).mpr z; omega
            refine lv_iconst (v := nI 1) hx hb dX8_countGarbageOf_32 (by decide) ?_
            refine lv_goto (tgt := 37) hx hb dX8_countGarbageOf_33 (by decide) ?_
            refine mm_top (y := mm_b true) rfl ?_
            refine mm_rpu (va_runS (As := [.int (mm_b true)]) (rest := [.int (nI (cB i (fun k => s_sto S k && !rch S k)))]) ⟨hx, hb, hml, hown, hts⟩ (t_one l ) (va_cwS 1 hts (lw_S q2467 q2468 q164 q2469) rfl rfl rfl (by decide +kernel) ⟨Nat.le_of_ble_eq_true rfl, Nat.le_of_ble_eq_true rfl⟩) (mm_pS hKK) rfl rfl hl.1 rfl (lv_room (Nat.le_of_ble_eq_true rfl)) dX8_countGarbageOf_37 ⟨Nat.le_of_ble_eq_true rfl, Nat.le_of_ble_eq_true rfl⟩) hS (mm_s0 hS) (fun L_37 hS => ?_)
            refine mm_top (y := nI 1) rfl ?_
            refine mm_iadd hx hb dX8_countGarbageOf_40 ?_
            refine mm_top (y := nI (cB (i + 1) (fun k => s_sto S k && !rch S k))) (congrArg nI (by rw [cB_succ]; simp [c_20, hrc])) ?_
            refine lv_istore_n (lv' := [(1, .int (nI (cB (i + 1) (fun k => s_sto S k && !rch S k)))), (2, .int (nI i)), (0, .ref x)]) hx hb dX8_countGarbageOf_41 rfl hl (by decide) rfl (fun ls hl => ?_)
            refine lv_iinc (v := nI (i + 1)) (lv' := [(2, .int (nI (i + 1))), (1, .int (nI (cB (i + 1) (fun k => s_sto S k && !rch S k)))), (0, .ref x)]) hx hb dX8_countGarbageOf_42 hl (k := 1) rfl (nI_add _ _) (by decide) rfl (fun ls hl => ?_)
            refine lv_goto (tgt := 4) hx hb dX8_countGarbageOf_45 (by decide) ?_
            exact ih_4 (i + 1) _ _ (by omega) (by omega) (lv_sub hl [1, 0, 2] rfl)  hS
  exact lp_4 _ 0 _ _ (Nat.lt_succ_self _) (by omega) (lv_sub hl [1, 0, 2] rfl)  hS
set_option maxRecDepth 100000 in
theorem t_countStored (l : Launch) {G : mm_G} {P : mm_H} {H : Heap} {x : Nat} {ad : Nat → Nat} {I : Nat → Int32} {F : Nat → Nat → Int32} {S : sp_S} (hT : TW G x ad I F H) (hR : TR (F 0) S) (hW : WF S) : Mt l yX8_countStored (ws_ yX8_countStored cX8_countStored 3 (some .int)) 3 60 0 0 G P [.ref x] H mm_0 (mm_pu (.int (nI (cB (s_nn S) (s_sto S)))) H) := by
  refine Mt.of (by decide) (Nat.le_of_ble_eq_true rfl) (fun p e s m below meth c ls hx hb hr hlk hml hown hnm hts hKK hsH hl hS => ?_)
  have hl : lv_has ls 3 [(0, .ref x)] := hl
  have hnv := hW.nv
  have hnn := hW.nn
  refine lv_iconst (v := nI 0) hx hb dX8_countStored_0 (by decide) ?_
  refine lv_istore_n (lv' := [(1, .int (nI 0)), (0, .ref x)]) hx hb dX8_countStored_1 rfl hl (by decide) rfl (fun ls hl => ?_)
  refine lv_iconst (v := nI 0) hx hb dX8_countStored_2 (by decide) ?_
  refine lv_istore_n (lv' := [(2, .int (nI 0)), (1, .int (nI 0)), (0, .ref x)]) hx hb dX8_countStored_3 rfl hl (by decide) rfl (fun ls hl => ?_)
  have lp_4 : ∀ (fu : Nat) (i : Nat)  (L : List Loc) (ls : Array Slot), s_nn S - i < fu → (i ≤ s_nn S) → lv_has ls 3 [(1, .int (nI (cB i (s_sto S)))), (2, .int (nI i)), (0, .ref x)] → va_S (mm_A mm_0 H) H H L → W p l e (mm_rm 3 60 0 0) s m ([.ref x] : List Value).toArray below meth c H L 0 0 (MQ below (mm_Qc H mm_0 (mm_pu (.int (nI (cB (s_nn S) (s_sto S)))) H)) ([.ref x] : List Value).toArray s 0 0 (mm_A mm_0 H)) (F0 m 4 ls []) := by
    intro fu; induction fu with
    | zero => intro i L ls hfu; exact absurd hfu (Nat.not_lt_zero _)
    | succ fu ih =>
      intro i L ls hfu hi hl  hS
      have ih_4 := ih
      have hcb := cB_le i (s_sto S)
      refine lv_iload_n hx hb dX8_countStored_4 rfl (lv_at hl 1 rfl) ?_
      refine lv_aload_n hx hb dX8_countStored_5 rfl (lv_at hl 2 rfl) ?_
      refine tw_geta 0 hx hb hts hown hKK hT rfl rfl (hts _ q2498) dX8_countStored_6 ?_
      refine lv_iconst (v := nI 1) hx hb dX8_countStored_9 (by decide) ?_
      refine mm_iald (k := 1) hx hb hKK (hT.2.2 0 rfl) mm_le.rf (by show _ < 4210; omega) (by decide) dX8_countStored_10 ?_
      refine mm_top (y := nI (s_nn S)) (hR.nn) ?_
      refine mm_icmp_ge (tgt := 31) (by omega) (by omega) hx hb dX8_countStored_11 (by decide) (fun c_11 => ?_) (fun c_11 => ?_)
      · refine lv_iload_n hx hb dX8_countStored_31 rfl (lv_at hl 0 rfl) ?_
        exact mm_iret (v := nI (cB i (s_sto S))) hx hb hr hlk hS (Nat.le_of_ble_eq_true rfl) (Nat.le_of_ble_eq_true rfl) (⟨by rw [show i = s_nn S by omega], rfl⟩) dX8_countStored_32
      · refine lv_iload_n hx hb dX8_countStored_14 rfl (lv_at hl 0 rfl) ?_
        refine lv_aload_n hx hb dX8_countStored_15 rfl (lv_at hl 2 rfl) ?_
        refine lv_iload_n hx hb dX8_countStored_16 rfl (lv_at hl 1 rfl) ?_
        refine mm_rpu (va_runV (As := [.int (nI i)]) (rest := [.int (nI (cB i (s_sto S)))]) ⟨hx, hb, hml, hown, hts⟩ (t_isStored l hT hR hW) (cwV 1 hts (lw_V q2817 q2819 qs107 q164 q2820) rfl rfl rfl (by decide +kernel) ⟨Nat.le_of_ble_eq_true rfl, Nat.le_of_ble_eq_true rfl⟩) (mm_pV hKK (mm_rc hKK hT.2.1 mm_le.rf rfl)) rfl rfl hl.1 rfl (lv_room (Nat.le_of_ble_eq_true rfl)) dX8_countStored_17 ⟨Nat.le_of_ble_eq_true rfl, Nat.le_of_ble_eq_true rfl⟩) hS (mm_s0 hS) (fun L_17 hS => ?_)
        refine mm_top (y := mm_b (s_sto S i)) (congrArg mm_b (isSt_n (by first | assumption | omega) hnn)) ?_
        refine mm_rpu (va_runS (As := [.int (mm_b (s_sto S i))]) (rest := [.int (nI (cB i (s_sto S)))]) ⟨hx, hb, hml, hown, hts⟩ (t_one l ) (va_cwS 1 hts (lw_S q2467 q2468 q164 q2469) rfl rfl rfl (by decide +kernel) ⟨Nat.le_of_ble_eq_true rfl, Nat.le_of_ble_eq_true rfl⟩) (mm_pS hKK) rfl rfl hl.1 rfl (lv_room (Nat.le_of_ble_eq_true rfl)) dX8_countStored_20 ⟨Nat.le_of_ble_eq_true rfl, Nat.le_of_ble_eq_true rfl⟩) hS (mm_s0 hS) (fun L_20 hS => ?_)
        refine lv_iadd hx hb dX8_countStored_23 ?_
        refine mm_top (mm_iB _ _) ?_
        refine lv_istore_n (lv' := [(1, .int (nI (cB i (s_sto S) + (if s_sto S i = true then 1 else 0)))), (2, .int (nI i)), (0, .ref x)]) hx hb dX8_countStored_24 rfl hl (by decide) rfl (fun ls hl => ?_)
        refine lv_iinc (v := nI (i + 1)) (lv' := [(2, .int (nI (i + 1))), (1, .int (nI (cB i (s_sto S) + (if s_sto S i = true then 1 else 0)))), (0, .ref x)]) hx hb dX8_countStored_25 hl (k := 1) rfl (nI_add _ _) (by decide) rfl (fun ls hl => ?_)
        refine lv_goto (tgt := 4) hx hb dX8_countStored_28 (by decide) ?_
        exact ih_4 (i + 1) _ _ (by omega) (by omega) (lv_sub hl [1, 0, 2] rfl)  hS
  exact lp_4 _ 0 _ _ (Nat.lt_succ_self _) (by omega) (lv_sub hl [1, 0, 2] rfl)  hS
set_option maxRecDepth 100000 in
theorem t_countReached (l : Launch) {G : mm_G} {P : mm_H} {H : Heap} {x : Nat} {ad : Nat → Nat} {I : Nat → Int32} {F : Nat → Nat → Int32} {S : sp_S} {q : Nat → Nat} {k : Nat} (hT : TW G x ad I F H) (hR : TR (F 0) S) (hW : WF S) (hk : k < 100) (hq9 : ∀ i, i < 200 → F 11 i = nI (q i) ∧ q i < 2 ^ 31) : Mt l yX8_countReached (ws_ yX8_countReached cX8_countReached 4 (some .int)) 3 60 0 0 G P [.ref x, .int (nI k)] H mm_0 (mm_pu (.int (nI (cB (s_nn S) (fun i => decide (q i = k))))) H) := by
  refine Mt.of (by decide) (Nat.le_of_ble_eq_true rfl) (fun p e s m below meth c ls hx hb hr hlk hml hown hnm hts hKK hsH hl hS => ?_)
  have hl : lv_has ls 4 [(0, .ref x), (1, .int (nI k))] := hl
  have hnv := hW.nv
  have hnn := hW.nn
  refine lv_iconst (v := nI 0) hx hb dX8_countReached_0 (by decide) ?_
  refine lv_istore_n (lv' := [(2, .int (nI 0)), (0, .ref x), (1, .int (nI k))]) hx hb dX8_countReached_1 rfl hl (by decide) rfl (fun ls hl => ?_)
  refine lv_iconst (v := nI 0) hx hb dX8_countReached_2 (by decide) ?_
  refine lv_istore_n (lv' := [(3, .int (nI 0)), (2, .int (nI 0)), (0, .ref x), (1, .int (nI k))]) hx hb dX8_countReached_3 rfl hl (by decide) rfl (fun ls hl => ?_)
  have lp_4 : ∀ (fu : Nat) (i : Nat)  (L : List Loc) (ls : Array Slot), s_nn S - i < fu → (i ≤ s_nn S) → lv_has ls 4 [(2, .int (nI (cB i (fun i => decide (q i = k))))), (3, .int (nI i)), (0, .ref x), (1, .int (nI k))] → va_S (mm_A mm_0 H) H H L → W p l e (mm_rm 3 60 0 0) s m ([.ref x, .int (nI k)] : List Value).toArray below meth c H L 0 0 (MQ below (mm_Qc H mm_0 (mm_pu (.int (nI (cB (s_nn S) (fun i => decide (q i = k))))) H)) ([.ref x, .int (nI k)] : List Value).toArray s 0 0 (mm_A mm_0 H)) (F0 m 4 ls []) := by
    intro fu; induction fu with
    | zero => intro i L ls hfu; exact absurd hfu (Nat.not_lt_zero _)
    | succ fu ih =>
      intro i L ls hfu hi hl  hS
      have ih_4 := ih
      have hcb := cB_le i (fun i => decide (q i = k))
      refine lv_iload_n hx hb dX8_countReached_4 rfl (lv_at hl 1 rfl) ?_
      refine lv_aload_n hx hb dX8_countReached_5 rfl (lv_at hl 2 rfl) ?_
      refine tw_geta 0 hx hb hts hown hKK hT rfl rfl (hts _ q2498) dX8_countReached_6 ?_
      refine lv_iconst (v := nI 1) hx hb dX8_countReached_9 (by decide) ?_
      refine mm_iald (k := 1) hx hb hKK (hT.2.2 0 rfl) mm_le.rf (by show _ < 4210; omega) (by decide) dX8_countReached_10 ?_
      refine mm_top (y := nI (s_nn S)) (hR.nn) ?_
      refine mm_icmp_ge (tgt := 41) (by omega) (by omega) hx hb dX8_countReached_11 (by decide) (fun c_11 => ?_) (fun c_11 => ?_)
      · refine lv_iload_n hx hb dX8_countReached_41 rfl (lv_at hl 0 rfl) ?_
        exact mm_iret (v := nI (cB i (fun i => decide (q i = k)))) hx hb hr hlk hS (Nat.le_of_ble_eq_true rfl) (Nat.le_of_ble_eq_true rfl) (⟨by rw [show i = s_nn S by omega], rfl⟩) dX8_countReached_42
      · have hq8 := hq9 i (by omega)
        refine lv_iload_n hx hb dX8_countReached_14 rfl (lv_at hl 0 rfl) ?_
        refine lv_aload_n hx hb dX8_countReached_15 rfl (lv_at hl 2 rfl) ?_
        refine tw_geta 11 hx hb hts hown hKK hT rfl rfl (hts _ q2509) dX8_countReached_16 ?_
        refine lv_iload_n hx hb dX8_countReached_19 rfl (lv_at hl 1 rfl) ?_
        refine mm_iald (k := i) hx hb hKK (hT.2.2 11 rfl) mm_le.rf (by show _ < 200; omega) (by decide) dX8_countReached_20 ?_
        refine mm_top (y := nI (q i)) (hq8.1) ?_
        refine lv_iload_n hx hb dX8_countReached_21 rfl (lv_at hl 3 rfl) ?_
        refine mm_icmp_ne (tgt := 29) (by omega) (by omega) hx hb dX8_countReached_22 (by decide) (fun c_22 => ?_) (fun c_22 => ?_)
        · refine lv_iconst (v := nI 0) hx hb dX8_countReached_29 (by decide) ?_
          refine mm_top (y := mm_b false) rfl ?_
          refine mm_rpu (va_runS (As := [.int (mm_b false)]) (rest := [.int (nI (cB i (fun i => decide (q i = k))))]) ⟨hx, hb, hml, hown, hts⟩ (t_one l ) (va_cwS 1 hts (lw_S q2467 q2468 q164 q2469) rfl rfl rfl (by decide +kernel) ⟨Nat.le_of_ble_eq_true rfl, Nat.le_of_ble_eq_true rfl⟩) (mm_pS hKK) rfl rfl hl.1 rfl (lv_room (Nat.le_of_ble_eq_true rfl)) dX8_countReached_30 ⟨Nat.le_of_ble_eq_true rfl, Nat.le_of_ble_eq_true rfl⟩) hS (mm_s0 hS) (fun L_30 hS => ?_)
          refine mm_top (y := nI 0) rfl ?_
          refine mm_iadd hx hb dX8_countReached_33 ?_
          refine mm_top (y := nI (cB i (fun i => decide (q i = k)))) (congrArg nI (by omega)) ?_
          refine mm_top (y := nI (cB (i + 1) (fun i => decide (q i = k)))) (congrArg nI (by rw [cB_succ]; simp [c_22])) ?_
          refine lv_istore_n (lv' := [(2, .int (nI (cB (i + 1) (fun i => decide (q i = k))))), (3, .int (nI i)), (0, .ref x), (1, .int (nI k))]) hx hb dX8_countReached_34 rfl hl (by decide) rfl (fun ls hl => ?_)
          refine lv_iinc (v := nI (i + 1)) (lv' := [(3, .int (nI (i + 1))), (2, .int (nI (cB (i + 1) (fun i => decide (q i = k))))), (0, .ref x), (1, .int (nI k))]) hx hb dX8_countReached_35 hl (k := 1) rfl (nI_add _ _) (by decide) rfl (fun ls hl => ?_)
          refine lv_goto (tgt := 4) hx hb dX8_countReached_38 (by decide) ?_
          exact ih_4 (i + 1) _ _ (by omega) (by omega) (lv_sub hl [1, 0, 2, 3] rfl)  hS
        · refine lv_iconst (v := nI 1) hx hb dX8_countReached_25 (by decide) ?_
          refine lv_goto (tgt := 30) hx hb dX8_countReached_26 (by decide) ?_
          refine mm_top (y := mm_b true) rfl ?_
          refine mm_rpu (va_runS (As := [.int (mm_b true)]) (rest := [.int (nI (cB i (fun i => decide (q i = k))))]) ⟨hx, hb, hml, hown, hts⟩ (t_one l ) (va_cwS 1 hts (lw_S q2467 q2468 q164 q2469) rfl rfl rfl (by decide +kernel) ⟨Nat.le_of_ble_eq_true rfl, Nat.le_of_ble_eq_true rfl⟩) (mm_pS hKK) rfl rfl hl.1 rfl (lv_room (Nat.le_of_ble_eq_true rfl)) dX8_countReached_30 ⟨Nat.le_of_ble_eq_true rfl, Nat.le_of_ble_eq_true rfl⟩) hS (mm_s0 hS) (fun L_30 hS => ?_)
          refine mm_top (y := nI 1) rfl ?_
          refine mm_iadd hx hb dX8_countReached_33 ?_
          refine mm_top (y := nI (cB (i + 1) (fun i => decide (q i = k)))) (congrArg nI (by rw [cB_succ]; simp [c_22])) ?_
          refine lv_istore_n (lv' := [(2, .int (nI (cB (i + 1) (fun i => decide (q i = k))))), (3, .int (nI i)), (0, .ref x), (1, .int (nI k))]) hx hb dX8_countReached_34 rfl hl (by decide) rfl (fun ls hl => ?_)
          refine lv_iinc (v := nI (i + 1)) (lv' := [(3, .int (nI (i + 1))), (2, .int (nI (cB (i + 1) (fun i => decide (q i = k))))), (0, .ref x), (1, .int (nI k))]) hx hb dX8_countReached_35 hl (k := 1) rfl (nI_add _ _) (by decide) rfl (fun ls hl => ?_)
          refine lv_goto (tgt := 4) hx hb dX8_countReached_38 (by decide) ?_
          exact ih_4 (i + 1) _ _ (by omega) (by omega) (lv_sub hl [1, 0, 2, 3] rfl)  hS
  exact lp_4 _ 0 _ _ (Nat.lt_succ_self _) (by omega) (lv_sub hl [1, 0, 2, 3] rfl)  hS
