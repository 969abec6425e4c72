/-! the twin: isConsistent (printed by tools/tw27.py) -/
theorem cnt_full (h : Nat) : (4 ^ h * 4 - 1) / 4 ^ h + 1 = 4 := by
  have hb := p4_pos h
  have h1 : (4 ^ h * 4 - 1) / 4 ^ h < 4 := by rw [Nat.div_lt_iff_lt_mul hb]; omega
  have h2 : 3 ≤ (4 ^ h * 4 - 1) / 4 ^ h := by rw [Nat.le_div_iff_mul_le hb]; omega
  omega
theorem cnt_cov {n b c : Nat} (hb : 0 < b) (h1 : 1 ≤ n) (hc : c = (n - 1) / b + 1) : n ≤ c * b := by
  obtain ⟨e1, e2⟩ := dm (n - 1) b hb
  rw [hc, Nat.succ_mul]; omega
theorem cnt_lt {n b c i : Nat} (h1 : 1 ≤ n) (hc : c = (n - 1) / b + 1) (hi : i < c) : i * b < n := by
  have h2 := Nat.div_mul_le_self (n - 1) b
  have h3 := Nat.mul_le_mul_right b (show i ≤ (n - 1) / b by omega)
  omega
set_option maxRecDepth 100000 in
theorem t_isTreeWhole (l : Launch) {G : mm_G} {P : mm_H} {H : Heap} {x : Nat} {ad : Nat → Nat} {I : Nat → Int32} {F : Nat → Nat → Int32} {S : sp_S} (h : Nat) {k n q : Nat} {ev : Nat → Int32} {la : Bool} (hT : TW G x ad I F H) (hR : TR (F 0) S) (hW : WF S) (hg : Reg S h k n ev ∧ h ≤ 3) (hla : la = false → n = 4 ^ h) (hq : q + n ≤ 64) (hk25 : I 25 = nI q) : Mt l yX8_isTreeWhole (ws_ yX8_isTreeWhole cX8_isTreeWhole 5 (some .boolean)) ((h + 2)) ((h * 60 + 60)) 0 0 G P [.ref x, .int (nI k), .int (nI h), .int (mm_b la)] H (tw_M x ad) (mm_i (mm_b true) (fun H2 => ∃ I2 F2, TW G x ad I2 F2 H2 ∧ exI [25] I I2 ∧ I2 25 = nI (q + n) ∧ eqx [24] F F2 ∧ (∀ j, j < q → F2 24 j = F 24 j) ∧ ∀ j, j < n → F2 24 (q + j) = ev j)) := by
  induction h generalizing k n q ev la I F H with
  | zero => exact hg.1.elim
  | succ h ihr =>
    refine Mt.of (by decide) (Nat.le_of_ble_eq_true rfl) (fun p e s m below meth c ls hx hb hr hlk hml hown hnm hts hKK hsH hl hS => ?_)
    have hl : lv_has ls 5 [(0, .ref x), (1, .int (nI k)), (2, .int (nI ((h + 1)))), (3, .int (mm_b la))] := hl
    have hR0 := hR
    have hMx : mm_A (tw_M x ad) H x := Or.inl (Or.inl rfl)
    have hMa : ∀ j, tw_isA j = true → mm_A (tw_M x ad) H (ad j) := fun j hj => Or.inl (Or.inr ⟨j, hj, rfl⟩)
    have hnv := hW.nv
    have hnn := hW.nn
    obtain ⟨⟨g1, g2, ⟨g3, g4, g5⟩, g6, g7, g8⟩, hh3⟩ := hg
    have hc := hW.cnt g1
    have hb4 := p4_pos h
    rcases Nat.eq_zero_or_pos h with hz | hz
    · have hlf : s_leaf S k = true := g6.mpr hz
      have hcn : s_cnt S k = n := by rw [g5, hz, Nat.pow_zero, Nat.div_one]; omega
      have hn4 : n ≤ 4 := by rw [hz, Nat.pow_zero, Nat.one_mul] at g4; exact g4
      refine lv_aload_n hx hb dX8_isTreeWhole_0 rfl (lv_at hl 0 rfl) ?_
      refine lv_iload_n hx hb dX8_isTreeWhole_1 rfl (lv_at hl 1 rfl) ?_
      refine mm_rpu (va_runV (As := [.int (nI k)]) (rest := []) ⟨hx, hb, hml, hown, hts⟩ (t_isStored l hT hR hW) (cwV 1 hts (lw_V q2817 q2819 qs107 q164 q2820) rfl rfl rfl (by decide +kernel) ⟨by simp only [mm_rm]; omega, by simp only [mm_rm]; omega⟩) (mm_pV hKK (mm_rc hKK hT.2.1 mm_le.rf rfl)) rfl rfl hl.1 rfl (lv_room (Nat.le_of_ble_eq_true rfl)) dX8_isTreeWhole_2 ⟨Nat.le_of_ble_eq_true rfl, Nat.le_of_ble_eq_true rfl⟩) hS (mm_s0 hS) (fun L_2 hS => ?_)
      refine mm_top (y := mm_b (s_sto S k)) (congrArg mm_b (isSt_n (by first | assumption | omega) hnn)) ?_
      refine mm_top (y := mm_b true) (congrArg mm_b g2) ?_
      refine mm_ifeqB (tgt := 39) hx hb dX8_isTreeWhole_5 (by decide) (fun c_5 => ?_) (fun c_5 => ?_)
      · exact absurd c_5 (by decide)
      · refine lv_aload_n hx hb dX8_isTreeWhole_8 rfl (lv_at hl 0 rfl) ?_
        refine lv_iload_n hx hb dX8_isTreeWhole_9 rfl (lv_at hl 1 rfl) ?_
        refine mm_rpu (va_runV (As := [.int (nI k)]) (rest := []) ⟨hx, hb, hml, hown, hts⟩ (t_isLeafNode l hT hR hW (by first | assumption | omega)) (cwV 1 hts (lw_V q2793 q2795 qs101 q164 q2796) rfl rfl rfl (by decide +kernel) ⟨by simp only [mm_rm]; omega, by simp only [mm_rm]; omega⟩) (mm_pV hKK (mm_rc hKK hT.2.1 mm_le.rf rfl)) rfl rfl hl.1 rfl (lv_room (Nat.le_of_ble_eq_true rfl)) dX8_isTreeWhole_10 ⟨Nat.le_of_ble_eq_true rfl, Nat.le_of_ble_eq_true rfl⟩) hS (mm_s0 hS) (fun L_10 hS => ?_)
        refine mm_top (y := mm_b true) (congrArg mm_b hlf) ?_
        refine lv_iload_n hx hb dX8_isTreeWhole_13 rfl (lv_at hl 2 rfl) ?_
        refine lv_iconst (v := nI 1) hx hb dX8_isTreeWhole_14 (by decide) ?_
        refine mm_icmp_ne (tgt := 22) (by omega) (by omega) hx hb dX8_isTreeWhole_15 (by decide) (fun c_15 => ?_) (fun c_15 => ?_)
        · exfalso; omega
        · refine lv_iconst (v := nI 1) hx hb dX8_isTreeWhole_18 (by decide) ?_
          refine mm_top (y := mm_b true) rfl ?_
          refine lv_goto (tgt := 23) hx hb dX8_isTreeWhole_19 (by decide) ?_
          refine lv_icmp_ne (tgt := 39) hx hb dX8_isTreeWhole_23 (by decide) (fun c_23 => ?_) (fun c_23 => ?_)
          · exact absurd rfl c_23
          · refine lv_iload_n hx hb dX8_isTreeWhole_26 rfl (lv_at hl 3 rfl) ?_
            refine mm_ifneB (tgt := 41) hx hb dX8_isTreeWhole_27 (by decide) (fun c_27 => ?_) (fun c_27 => ?_)
            · refine lv_iconst (v := nI 0) hx hb dX8_isTreeWhole_41 (by decide) ?_
              refine lv_istore (lv' := [(4, .int (nI 0)), (0, .ref x), (1, .int (nI k)), (2, .int (nI ((h + 1)))), (3, .int (mm_b la))]) hx hb dX8_isTreeWhole_42 hl (by decide) rfl (fun ls hl => ?_)
              have lp_44 : ∀ (fu : Nat) (i : Nat) (m9 : Nat) (H1 : Heap) (I1 : Nat → Int32) (F1 : Nat → Nat → Int32) (L : List Loc) (ls : Array Slot), s_cnt S k - i < fu → (i ≤ s_cnt S k) → (m9 = i) → lv_has ls 5 [(4, .int (nI i)), (0, .ref x), (1, .int (nI k)), (2, .int (nI ((h + 1)))), (3, .int (mm_b la))] → (TW G x ad I1 F1 H1) → (exI [25] I I1) → (I1 25 = nI (q + m9)) → (eqx [24] F F1) → (∀ j, j < q → F1 24 j = F 24 j) → (∀ j, j < m9 → F1 24 (q + j) = ev j) → va_S (mm_A (tw_M x ad) H) H H1 L → W p l e (mm_rm (((h + 1) + 2)) (((h + 1) * 60 + 60)) 0 0) s m ([.ref x, .int (nI k), .int (nI ((h + 1))), .int (mm_b la)] : List Value).toArray below meth c H1 L 0 0 (MQ below (mm_Qc H (tw_M x ad) (mm_i (mm_b true) (fun H2 => ∃ I2 F2, TW G x ad I2 F2 H2 ∧ exI [25] I I2 ∧ I2 25 = nI (q + n) ∧ eqx [24] F F2 ∧ (∀ j, j < q → F2 24 j = F 24 j) ∧ ∀ j, j < n → F2 24 (q + j) = ev j))) ([.ref x, .int (nI k), .int (nI ((h + 1))), .int (mm_b la)] : List Value).toArray s 0 0 (mm_A (tw_M x ad) H)) (F0 m 44 ls []) := by
                intro fu; induction fu with
                | zero => intro i m9 H1 I1 F1 L ls hfu; exact absurd hfu (Nat.not_lt_zero _)
                | succ fu ih =>
                  intro i m9 H1 I1 F1 L ls hfu hi hm hl hT hxi hk25 he hlo hhi hS
                  have ih_44 := ih
                  have hR := TRx he (by decide) hR0
                  refine lv_iload hx hb dX8_isTreeWhole_44 (lv_at hl 0 rfl) ?_
                  refine lv_aload_n hx hb dX8_isTreeWhole_46 rfl (lv_at hl 1 rfl) ?_
                  refine lv_iload_n hx hb dX8_isTreeWhole_47 rfl (lv_at hl 2 rfl) ?_
                  refine mm_rpu (va_runV (As := [.int (nI k)]) (rest := [.int (nI i)]) ⟨hx, hb, hml, hown, hts⟩ (t_countOf l hT hR hW (by first | assumption | omega)) (cwV 1 hts (lw_V q2745 q2747 qs89 q164 q2748) rfl rfl rfl (by decide +kernel) ⟨by simp only [mm_rm]; omega, by simp only [mm_rm]; omega⟩) (mm_pV hKK (mm_rc hKK hT.2.1 mm_le.rf rfl)) rfl rfl hl.1 rfl (lv_room (Nat.le_of_ble_eq_true rfl)) dX8_isTreeWhole_48 ⟨Nat.le_of_ble_eq_true rfl, Nat.le_of_ble_eq_true rfl⟩) hS (mm_s0 hS) (fun L_48 hS => ?_)
                  refine mm_icmp_ge (tgt := 134) (by omega) (by omega) hx hb dX8_isTreeWhole_51 (by decide) (fun c_51 => ?_) (fun c_51 => ?_)
                  · refine lv_iconst (v := nI 1) hx hb dX8_isTreeWhole_134 (by decide) ?_
                    refine mm_top (y := mm_b true) rfl ?_
                    have hfin : m9 = n := by omega
                    exact mm_zret (v := mm_b true) hx hb hr hlk hS (Nat.le_of_ble_eq_true rfl) (Nat.le_of_ble_eq_true rfl) (mm_nb _) (⟨rfl, I1, F1, hT, hxi, by rw [hk25, hfin], he, hlo, fun j hj => hhi j (by omega)⟩) dX8_isTreeWhole_135
                  · have hi9 : i < s_cnt S k := c_51
                    refine lv_iload_n hx hb dX8_isTreeWhole_54 rfl (lv_at hl 3 rfl) ?_
                    refine lv_iconst (v := nI 1) hx hb dX8_isTreeWhole_55 (by decide) ?_
                    refine mm_icmp_ne (tgt := 88) (by omega) (by omega) hx hb dX8_isTreeWhole_56 (by decide) (fun c_56 => ?_) (fun c_56 => ?_)
                    · exfalso; omega
                    · refine lv_aload_n hx hb dX8_isTreeWhole_59 rfl (lv_at hl 1 rfl) ?_
                      refine tw_geta 24 hx hb hts hown hKK hT rfl rfl (hts _ q2522) dX8_isTreeWhole_60 ?_
                      refine lv_aload_n hx hb dX8_isTreeWhole_63 rfl (lv_at hl 1 rfl) ?_
                      refine tw_geti 25 (v := nI (q + m9)) hx hb hts hown hKK hT (by decide) rfl (hk25) (hts _ q2523) dX8_isTreeWhole_64 ?_
                      refine lv_aload_n hx hb dX8_isTreeWhole_67 rfl (lv_at hl 1 rfl) ?_
                      refine lv_iload_n hx hb dX8_isTreeWhole_68 rfl (lv_at hl 2 rfl) ?_
                      refine lv_iload hx hb dX8_isTreeWhole_69 (lv_at hl 0 rfl) ?_
                      refine mm_rpu (va_runV (As := [.int (nI k), .int (nI i)]) (rest := [.int (nI (q + m9)), .ref (ad 24)]) ⟨hx, hb, hml, hown, hts⟩ (t_entry l hT hR hW (by first | assumption | omega) (by first | assumption | omega)) (cwV 2 hts (lw_V q2753 q2755 qs91 q164 q2756) rfl rfl rfl (by decide +kernel) ⟨by simp only [mm_rm]; omega, by simp only [mm_rm]; omega⟩) (mm_pV hKK (mm_rc hKK hT.2.1 mm_le.rf rfl)) rfl rfl hl.1 rfl (lv_room (Nat.le_of_ble_eq_true rfl)) dX8_isTreeWhole_71 ⟨Nat.le_of_ble_eq_true rfl, Nat.le_of_ble_eq_true rfl⟩) hS (mm_s0 hS) (fun L_71 hS => ?_)
                      refine tw_st 24 (k := (q + m9)) hx hb hKK hT hS hMa rfl rfl (by show _ < 64; omega) dX8_isTreeWhole_74 (fun H_74 L_74 hT hz_74 hq_74 hS => ?_)
                      refine lv_aload_n hx hb dX8_isTreeWhole_75 rfl (lv_at hl 1 rfl) ?_
                      refine lv_dup hx hb dX8_isTreeWhole_76 rfl ?_
                      refine tw_geti 25 (v := nI (q + m9)) hx hb hts hown hKK hT (by decide) rfl (hk25) (hts _ q2523) dX8_isTreeWhole_77 ?_
                      refine lv_iconst (v := nI 1) hx hb dX8_isTreeWhole_80 (by decide) ?_
                      refine mm_iadd hx hb dX8_isTreeWhole_81 ?_
                      refine tw_put 25 hx hb hts hown hKK hT hS (hMx) (by decide) rfl (by decide) ⟨rfl, rfl⟩ (hts _ q2523) dX8_isTreeWhole_82 (fun H_82 L_82 hT hz_82 hq_82 hS => ?_)
                      refine lv_goto (tgt := 128) hx hb dX8_isTreeWhole_85 (by decide) ?_
                      refine lv_iinc (v := nI (i + 1)) (lv' := [(4, .int (nI (i + 1))), (0, .ref x), (1, .int (nI k)), (2, .int (nI ((h + 1)))), (3, .int (mm_b la))]) hx hb dX8_isTreeWhole_128 hl (k := 0) rfl (nI_add _ _) (by decide) rfl (fun ls hl => ?_)
                      refine lv_goto (tgt := 44) hx hb dX8_isTreeWhole_131 (by decide) ?_
                      exact ih_44 (i + 1) (m9 + 1) H_82 ((upd I1 25 (nI (q + m9 + 1)))) ((tw_u F1 24 (q + m9) (s_ent S k i))) _ _ (by omega) (by omega) (by omega) (lv_sub hl [0, 1, 2, 3, 4] rfl) hT (hxi.tr (exI.u (by decide))) (tw_up _ _ _) (he.tr (eqx.u (by decide))) (fun j hj => (su_n (by omega)).trans (hlo j hj)) (fun j hj => by by_cases z : j = m9; rw [z]; exact su_s.trans (by rw [hm]; exact g7 hz i (by omega)); exact (su_n (by omega)).trans (hhi j (by omega))) hS
              exact lp_44 _ 0 0 H I F _ _ (Nat.lt_succ_self _) (by omega) (rfl) (lv_sub hl [0, 1, 2, 3, 4] rfl) hT exI.rf hk25 eqx.rf (fun j _ => rfl) (fun j hj => absurd hj (by omega)) hS
            · have hcf : s_cnt S k = 4 := by rw [g5, hla c_27, Nat.pow_succ]; exact cnt_full h
              refine lv_aload_n hx hb dX8_isTreeWhole_30 rfl (lv_at hl 0 rfl) ?_
              refine lv_iload_n hx hb dX8_isTreeWhole_31 rfl (lv_at hl 1 rfl) ?_
              refine mm_rpu (va_runV (As := [.int (nI k)]) (rest := []) ⟨hx, hb, hml, hown, hts⟩ (t_countOf l hT hR hW (by first | assumption | omega)) (cwV 1 hts (lw_V q2745 q2747 qs89 q164 q2748) rfl rfl rfl (by decide +kernel) ⟨by simp only [mm_rm]; omega, by simp only [mm_rm]; omega⟩) (mm_pV hKK (mm_rc hKK hT.2.1 mm_le.rf rfl)) rfl rfl hl.1 rfl (lv_room (Nat.le_of_ble_eq_true rfl)) dX8_isTreeWhole_32 ⟨Nat.le_of_ble_eq_true rfl, Nat.le_of_ble_eq_true rfl⟩) hS (mm_s0 hS) (fun L_32 hS => ?_)
              refine lv_iconst (v := nI 4) hx hb dX8_isTreeWhole_35 (by decide) ?_
              refine mm_icmp_ge (tgt := 41) (by omega) (by omega) hx hb dX8_isTreeWhole_36 (by decide) (fun c_36 => ?_) (fun c_36 => ?_)
              · refine lv_iconst (v := nI 0) hx hb dX8_isTreeWhole_41 (by decide) ?_
                refine lv_istore (lv' := [(4, .int (nI 0)), (0, .ref x), (1, .int (nI k)), (2, .int (nI ((h + 1)))), (3, .int (mm_b la))]) hx hb dX8_isTreeWhole_42 hl (by decide) rfl (fun ls hl => ?_)
                have lp_44 : ∀ (fu : Nat) (i : Nat) (m9 : Nat) (H1 : Heap) (I1 : Nat → Int32) (F1 : Nat → Nat → Int32) (L : List Loc) (ls : Array Slot), s_cnt S k - i < fu → (i ≤ s_cnt S k) → (m9 = i) → lv_has ls 5 [(4, .int (nI i)), (0, .ref x), (1, .int (nI k)), (2, .int (nI ((h + 1)))), (3, .int (mm_b la))] → (TW G x ad I1 F1 H1) → (exI [25] I I1) → (I1 25 = nI (q + m9)) → (eqx [24] F F1) → (∀ j, j < q → F1 24 j = F 24 j) → (∀ j, j < m9 → F1 24 (q + j) = ev j) → va_S (mm_A (tw_M x ad) H) H H1 L → W p l e (mm_rm (((h + 1) + 2)) (((h + 1) * 60 + 60)) 0 0) s m ([.ref x, .int (nI k), .int (nI ((h + 1))), .int (mm_b la)] : List Value).toArray below meth c H1 L 0 0 (MQ below (mm_Qc H (tw_M x ad) (mm_i (mm_b true) (fun H2 => ∃ I2 F2, TW G x ad I2 F2 H2 ∧ exI [25] I I2 ∧ I2 25 = nI (q + n) ∧ eqx [24] F F2 ∧ (∀ j, j < q → F2 24 j = F 24 j) ∧ ∀ j, j < n → F2 24 (q + j) = ev j))) ([.ref x, .int (nI k), .int (nI ((h + 1))), .int (mm_b la)] : List Value).toArray s 0 0 (mm_A (tw_M x ad) H)) (F0 m 44 ls []) := by
                  intro fu; induction fu with
                  | zero => intro i m9 H1 I1 F1 L ls hfu; exact absurd hfu (Nat.not_lt_zero _)
                  | succ fu ih =>
                    intro i m9 H1 I1 F1 L ls hfu hi hm hl hT hxi hk25 he hlo hhi hS
                    have ih_44 := ih
                    have hR := TRx he (by decide) hR0
                    refine lv_iload hx hb dX8_isTreeWhole_44 (lv_at hl 0 rfl) ?_
                    refine lv_aload_n hx hb dX8_isTreeWhole_46 rfl (lv_at hl 1 rfl) ?_
                    refine lv_iload_n hx hb dX8_isTreeWhole_47 rfl (lv_at hl 2 rfl) ?_
                    refine mm_rpu (va_runV (As := [.int (nI k)]) (rest := [.int (nI i)]) ⟨hx, hb, hml, hown, hts⟩ (t_countOf l hT hR hW (by first | assumption | omega)) (cwV 1 hts (lw_V q2745 q2747 qs89 q164 q2748) rfl rfl rfl (by decide +kernel) ⟨by simp only [mm_rm]; omega, by simp only [mm_rm]; omega⟩) (mm_pV hKK (mm_rc hKK hT.2.1 mm_le.rf rfl)) rfl rfl hl.1 rfl (lv_room (Nat.le_of_ble_eq_true rfl)) dX8_isTreeWhole_48 ⟨Nat.le_of_ble_eq_true rfl, Nat.le_of_ble_eq_true rfl⟩) hS (mm_s0 hS) (fun L_48 hS => ?_)
                    refine mm_icmp_ge (tgt := 134) (by omega) (by omega) hx hb dX8_isTreeWhole_51 (by decide) (fun c_51 => ?_) (fun c_51 => ?_)
                    · refine lv_iconst (v := nI 1) hx hb dX8_isTreeWhole_134 (by decide) ?_
                      refine mm_top (y := mm_b true) rfl ?_
                      have hfin : m9 = n := by omega
                      exact mm_zret (v := mm_b true) hx hb hr hlk hS (Nat.le_of_ble_eq_true rfl) (Nat.le_of_ble_eq_true rfl) (mm_nb _) (⟨rfl, I1, F1, hT, hxi, by rw [hk25, hfin], he, hlo, fun j hj => hhi j (by omega)⟩) dX8_isTreeWhole_135
                    · have hi9 : i < s_cnt S k := c_51
                      refine lv_iload_n hx hb dX8_isTreeWhole_54 rfl (lv_at hl 3 rfl) ?_
                      refine lv_iconst (v := nI 1) hx hb dX8_isTreeWhole_55 (by decide) ?_
                      refine mm_icmp_ne (tgt := 88) (by omega) (by omega) hx hb dX8_isTreeWhole_56 (by decide) (fun c_56 => ?_) (fun c_56 => ?_)
                      · exfalso; omega
                      · refine lv_aload_n hx hb dX8_isTreeWhole_59 rfl (lv_at hl 1 rfl) ?_
                        refine tw_geta 24 hx hb hts hown hKK hT rfl rfl (hts _ q2522) dX8_isTreeWhole_60 ?_
                        refine lv_aload_n hx hb dX8_isTreeWhole_63 rfl (lv_at hl 1 rfl) ?_
                        refine tw_geti 25 (v := nI (q + m9)) hx hb hts hown hKK hT (by decide) rfl (hk25) (hts _ q2523) dX8_isTreeWhole_64 ?_
                        refine lv_aload_n hx hb dX8_isTreeWhole_67 rfl (lv_at hl 1 rfl) ?_
                        refine lv_iload_n hx hb dX8_isTreeWhole_68 rfl (lv_at hl 2 rfl) ?_
                        refine lv_iload hx hb dX8_isTreeWhole_69 (lv_at hl 0 rfl) ?_
                        refine mm_rpu (va_runV (As := [.int (nI k), .int (nI i)]) (rest := [.int (nI (q + m9)), .ref (ad 24)]) ⟨hx, hb, hml, hown, hts⟩ (t_entry l hT hR hW (by first | assumption | omega) (by first | assumption | omega)) (cwV 2 hts (lw_V q2753 q2755 qs91 q164 q2756) rfl rfl rfl (by decide +kernel) ⟨by simp only [mm_rm]; omega, by simp only [mm_rm]; omega⟩) (mm_pV hKK (mm_rc hKK hT.2.1 mm_le.rf rfl)) rfl rfl hl.1 rfl (lv_room (Nat.le_of_ble_eq_true rfl)) dX8_isTreeWhole_71 ⟨Nat.le_of_ble_eq_true rfl, Nat.le_of_ble_eq_true rfl⟩) hS (mm_s0 hS) (fun L_71 hS => ?_)
                        refine tw_st 24 (k := (q + m9)) hx hb hKK hT hS hMa rfl rfl (by show _ < 64; omega) dX8_isTreeWhole_74 (fun H_74 L_74 hT hz_74 hq_74 hS => ?_)
                        refine lv_aload_n hx hb dX8_isTreeWhole_75 rfl (lv_at hl 1 rfl) ?_
                        refine lv_dup hx hb dX8_isTreeWhole_76 rfl ?_
                        refine tw_geti 25 (v := nI (q + m9)) hx hb hts hown hKK hT (by decide) rfl (hk25) (hts _ q2523) dX8_isTreeWhole_77 ?_
                        refine lv_iconst (v := nI 1) hx hb dX8_isTreeWhole_80 (by decide) ?_
                        refine mm_iadd hx hb dX8_isTreeWhole_81 ?_
                        refine tw_put 25 hx hb hts hown hKK hT hS (hMx) (by decide) rfl (by decide) ⟨rfl, rfl⟩ (hts _ q2523) dX8_isTreeWhole_82 (fun H_82 L_82 hT hz_82 hq_82 hS => ?_)
                        refine lv_goto (tgt := 128) hx hb dX8_isTreeWhole_85 (by decide) ?_
                        refine lv_iinc (v := nI (i + 1)) (lv' := [(4, .int (nI (i + 1))), (0, .ref x), (1, .int (nI k)), (2, .int (nI ((h + 1)))), (3, .int (mm_b la))]) hx hb dX8_isTreeWhole_128 hl (k := 0) rfl (nI_add _ _) (by decide) rfl (fun ls hl => ?_)
                        refine lv_goto (tgt := 44) hx hb dX8_isTreeWhole_131 (by decide) ?_
                        exact ih_44 (i + 1) (m9 + 1) H_82 ((upd I1 25 (nI (q + m9 + 1)))) ((tw_u F1 24 (q + m9) (s_ent S k i))) _ _ (by omega) (by omega) (by omega) (lv_sub hl [0, 1, 2, 3, 4] rfl) hT (hxi.tr (exI.u (by decide))) (tw_up _ _ _) (he.tr (eqx.u (by decide))) (fun j hj => (su_n (by omega)).trans (hlo j hj)) (fun j hj => by by_cases z : j = m9; rw [z]; exact su_s.trans (by rw [hm]; exact g7 hz i (by omega)); exact (su_n (by omega)).trans (hhi j (by omega))) hS
                exact lp_44 _ 0 0 H I F _ _ (Nat.lt_succ_self _) (by omega) (rfl) (lv_sub hl [0, 1, 2, 3, 4] rfl) hT exI.rf hk25 eqx.rf (fun j _ => rfl) (fun j hj => absurd hj (by omega)) hS
              · exfalso; omega
    · have hlf : s_leaf S k = false := by cases y : s_leaf S k with | false => rfl | true => exact absurd (g6.mp y) (by omega)
      refine lv_aload_n hx hb dX8_isTreeWhole_0 rfl (lv_at hl 0 rfl) ?_
      refine lv_iload_n hx hb dX8_isTreeWhole_1 rfl (lv_at hl 1 rfl) ?_
      refine mm_rpu (va_runV (As := [.int (nI k)]) (rest := []) ⟨hx, hb, hml, hown, hts⟩ (t_isStored l hT hR hW) (cwV 1 hts (lw_V q2817 q2819 qs107 q164 q2820) rfl rfl rfl (by decide +kernel) ⟨by simp only [mm_rm]; omega, by simp only [mm_rm]; omega⟩) (mm_pV hKK (mm_rc hKK hT.2.1 mm_le.rf rfl)) rfl rfl hl.1 rfl (lv_room (Nat.le_of_ble_eq_true rfl)) dX8_isTreeWhole_2 ⟨Nat.le_of_ble_eq_true rfl, Nat.le_of_ble_eq_true rfl⟩) hS (mm_s0 hS) (fun L_2 hS => ?_)
      refine mm_top (y := mm_b (s_sto S k)) (congrArg mm_b (isSt_n (by first | assumption | omega) hnn)) ?_
      refine mm_top (y := mm_b true) (congrArg mm_b g2) ?_
      refine mm_ifeqB (tgt := 39) hx hb dX8_isTreeWhole_5 (by decide) (fun c_5 => ?_) (fun c_5 => ?_)
      · exact absurd c_5 (by decide)
      · refine lv_aload_n hx hb dX8_isTreeWhole_8 rfl (lv_at hl 0 rfl) ?_
        refine lv_iload_n hx hb dX8_isTreeWhole_9 rfl (lv_at hl 1 rfl) ?_
        refine mm_rpu (va_runV (As := [.int (nI k)]) (rest := []) ⟨hx, hb, hml, hown, hts⟩ (t_isLeafNode l hT hR hW (by first | assumption | omega)) (cwV 1 hts (lw_V q2793 q2795 qs101 q164 q2796) rfl rfl rfl (by decide +kernel) ⟨by simp only [mm_rm]; omega, by simp only [mm_rm]; omega⟩) (mm_pV hKK (mm_rc hKK hT.2.1 mm_le.rf rfl)) rfl rfl hl.1 rfl (lv_room (Nat.le_of_ble_eq_true rfl)) dX8_isTreeWhole_10 ⟨Nat.le_of_ble_eq_true rfl, Nat.le_of_ble_eq_true rfl⟩) hS (mm_s0 hS) (fun L_10 hS => ?_)
        refine mm_top (y := mm_b false) (congrArg mm_b hlf) ?_
        refine lv_iload_n hx hb dX8_isTreeWhole_13 rfl (lv_at hl 2 rfl) ?_
        refine lv_iconst (v := nI 1) hx hb dX8_isTreeWhole_14 (by decide) ?_
        refine mm_icmp_ne (tgt := 22) (by omega) (by omega) hx hb dX8_isTreeWhole_15 (by decide) (fun c_15 => ?_) (fun c_15 => ?_)
        · refine lv_iconst (v := nI 0) hx hb dX8_isTreeWhole_22 (by decide) ?_
          refine mm_top (y := mm_b false) rfl ?_
          refine lv_icmp_ne (tgt := 39) hx hb dX8_isTreeWhole_23 (by decide) (fun c_23 => ?_) (fun c_23 => ?_)
          · exact absurd rfl c_23
          · refine lv_iload_n hx hb dX8_isTreeWhole_26 rfl (lv_at hl 3 rfl) ?_
            refine mm_ifneB (tgt := 41) hx hb dX8_isTreeWhole_27 (by decide) (fun c_27 => ?_) (fun c_27 => ?_)
            · refine lv_iconst (v := nI 0) hx hb dX8_isTreeWhole_41 (by decide) ?_
              refine lv_istore (lv' := [(4, .int (nI 0)), (0, .ref x), (1, .int (nI k)), (2, .int (nI ((h + 1)))), (3, .int (mm_b la))]) hx hb dX8_isTreeWhole_42 hl (by decide) rfl (fun ls hl => ?_)
              have lp_44 : ∀ (fu : Nat) (i : Nat) (m9 : Nat) (H1 : Heap) (I1 : Nat → Int32) (F1 : Nat → Nat → Int32) (L : List Loc) (ls : Array Slot), s_cnt S k - i < fu → (i ≤ s_cnt S k) → (m9 = min n (i * 4 ^ h)) → lv_has ls 5 [(4, .int (nI i)), (0, .ref x), (1, .int (nI k)), (2, .int (nI ((h + 1)))), (3, .int (mm_b la))] → (TW G x ad I1 F1 H1) → (exI [25] I I1) → (I1 25 = nI (q + m9)) → (eqx [24] F F1) → (∀ j, j < q → F1 24 j = F 24 j) → (∀ j, j < m9 → F1 24 (q + j) = ev j) → va_S (mm_A (tw_M x ad) H) H H1 L → W p l e (mm_rm (((h + 1) + 2)) (((h + 1) * 60 + 60)) 0 0) s m ([.ref x, .int (nI k), .int (nI ((h + 1))), .int (mm_b la)] : List Value).toArray below meth c H1 L 0 0 (MQ below (mm_Qc H (tw_M x ad) (mm_i (mm_b true) (fun H2 => ∃ I2 F2, TW G x ad I2 F2 H2 ∧ exI [25] I I2 ∧ I2 25 = nI (q + n) ∧ eqx [24] F F2 ∧ (∀ j, j < q → F2 24 j = F 24 j) ∧ ∀ j, j < n → F2 24 (q + j) = ev j))) ([.ref x, .int (nI k), .int (nI ((h + 1))), .int (mm_b la)] : List Value).toArray s 0 0 (mm_A (tw_M x ad) H)) (F0 m 44 ls []) := by
                intro fu; induction fu with
                | zero => intro i m9 H1 I1 F1 L ls hfu; exact absurd hfu (Nat.not_lt_zero _)
                | succ fu ih =>
                  intro i m9 H1 I1 F1 L ls hfu hi hm hl hT hxi hk25 he hlo hhi hS
                  have ih_44 := ih
                  have hR := TRx he (by decide) hR0
                  refine lv_iload hx hb dX8_isTreeWhole_44 (lv_at hl 0 rfl) ?_
                  refine lv_aload_n hx hb dX8_isTreeWhole_46 rfl (lv_at hl 1 rfl) ?_
                  refine lv_iload_n hx hb dX8_isTreeWhole_47 rfl (lv_at hl 2 rfl) ?_
                  refine mm_rpu (va_runV (As := [.int (nI k)]) (rest := [.int (nI i)]) ⟨hx, hb, hml, hown, hts⟩ (t_countOf l hT hR hW (by first | assumption | omega)) (cwV 1 hts (lw_V q2745 q2747 qs89 q164 q2748) rfl rfl rfl (by decide +kernel) ⟨by simp only [mm_rm]; omega, by simp only [mm_rm]; omega⟩) (mm_pV hKK (mm_rc hKK hT.2.1 mm_le.rf rfl)) rfl rfl hl.1 rfl (lv_room (Nat.le_of_ble_eq_true rfl)) dX8_isTreeWhole_48 ⟨Nat.le_of_ble_eq_true rfl, Nat.le_of_ble_eq_true rfl⟩) hS (mm_s0 hS) (fun L_48 hS => ?_)
                  refine mm_icmp_ge (tgt := 134) (by omega) (by omega) hx hb dX8_isTreeWhole_51 (by decide) (fun c_51 => ?_) (fun c_51 => ?_)
                  · refine lv_iconst (v := nI 1) hx hb dX8_isTreeWhole_134 (by decide) ?_
                    refine mm_top (y := mm_b true) rfl ?_
                    have hfin : m9 = n := by have hcv := cnt_cov hb4 g3 g5; rw [show i = s_cnt S k by omega] at hm; omega
                    exact mm_zret (v := mm_b true) hx hb hr hlk hS (Nat.le_of_ble_eq_true rfl) (Nat.le_of_ble_eq_true rfl) (mm_nb _) (⟨rfl, I1, F1, hT, hxi, by rw [hk25, hfin], he, hlo, fun j hj => hhi j (by omega)⟩) dX8_isTreeWhole_135
                  · have hi9 : i < s_cnt S k := c_51
                    have hlt9 := cnt_lt g3 g5 hi9
                    have hmP : m9 = i * 4 ^ h := by omega
                    refine lv_iload_n hx hb dX8_isTreeWhole_54 rfl (lv_at hl 3 rfl) ?_
                    refine lv_iconst (v := nI 1) hx hb dX8_isTreeWhole_55 (by decide) ?_
                    refine mm_icmp_ne (tgt := 88) (by omega) (by omega) hx hb dX8_isTreeWhole_56 (by decide) (fun c_56 => ?_) (fun c_56 => ?_)
                    · refine lv_aload_n hx hb dX8_isTreeWhole_88 rfl (lv_at hl 1 rfl) ?_
                      refine lv_aload_n hx hb dX8_isTreeWhole_89 rfl (lv_at hl 1 rfl) ?_
                      refine lv_iload_n hx hb dX8_isTreeWhole_90 rfl (lv_at hl 2 rfl) ?_
                      refine lv_iload hx hb dX8_isTreeWhole_91 (lv_at hl 0 rfl) ?_
                      refine mm_rpu (va_runV (As := [.int (nI k), .int (nI i)]) (rest := [.ref x]) ⟨hx, hb, hml, hown, hts⟩ (t_entry l hT hR hW (by first | assumption | omega) (by first | assumption | omega)) (cwV 2 hts (lw_V q2753 q2755 qs91 q164 q2756) rfl rfl rfl (by decide +kernel) ⟨by simp only [mm_rm]; omega, by simp only [mm_rm]; omega⟩) (mm_pV hKK (mm_rc hKK hT.2.1 mm_le.rf rfl)) rfl rfl hl.1 rfl (lv_room (Nat.le_of_ble_eq_true rfl)) dX8_isTreeWhole_93 ⟨Nat.le_of_ble_eq_true rfl, Nat.le_of_ble_eq_true rfl⟩) hS (mm_s0 hS) (fun L_93 hS => ?_)
                      refine mm_top (y := nI (s_chd S k i)) ((hW.ent g1 hlf hi9).1) ?_
                      refine lv_iload_n hx hb dX8_isTreeWhole_96 rfl (lv_at hl 3 rfl) ?_
                      refine lv_iconst (v := nI 1) hx hb dX8_isTreeWhole_97 (by decide) ?_
                      refine mm_isub (by omega) hx hb dX8_isTreeWhole_98 ?_
                      refine mm_top (y := nI h) (congrArg nI (Nat.add_sub_cancel h 1)) ?_
                      refine lv_iload_n hx hb dX8_isTreeWhole_99 rfl (lv_at hl 4 rfl) ?_
                      refine mm_ifeqB (tgt := 119) hx hb dX8_isTreeWhole_100 (by decide) (fun c_100 => ?_) (fun c_100 => ?_)
                      · refine lv_iconst (v := nI 0) hx hb dX8_isTreeWhole_119 (by decide) ?_
                        refine mm_top (y := mm_b false) rfl ?_
                        have hmn : m9 + min (4 ^ h) (n - i * 4 ^ h) ≤ n := by omega
                        refine mm_ri (va_runV (As := [.int (nI (s_chd S k i)), .int (nI h), .int (mm_b false)]) (rest := []) ⟨hx, hb, hml, hown, hts⟩ (ihr hT hR ⟨g8 (by omega) i hi9, by omega⟩ (fun _ => by have hq4 := hla c_100; have h4 := Nat.mul_le_mul_right (4 ^ h) (show i + 1 ≤ 4 by omega); rw [Nat.pow_succ] at hq4; rw [Nat.succ_mul] at h4; omega) (show (q + m9) + min (4 ^ h) (n - i * 4 ^ h) ≤ 64 by omega) hk25) (cwV 3 hts (lw_V q3035 q3037 qs126 q164 q3038) rfl rfl rfl (by decide +kernel) ⟨by simp only [mm_rm]; omega, by simp only [mm_rm]; omega⟩) (mm_pV hKK (mm_rc hKK hT.2.1 mm_le.rf rfl)) rfl rfl hl.1 rfl (lv_room (Nat.le_of_ble_eq_true rfl)) dX8_isTreeWhole_120 ⟨Nat.le_of_ble_eq_true rfl, Nat.le_of_ble_eq_true rfl⟩) hS (mm_sS hS) (fun H_120 L_120 hB_120 hz_120 hq_120 hS => ?_)
                        obtain ⟨I_120, F_120, hT, hx_120, hk_120, he_120, hlo_120, hhi_120⟩ := hB_120
                        refine mm_ifneB (tgt := 128) hx hb dX8_isTreeWhole_123 (by decide) (fun c_123 => ?_) (fun c_123 => ?_)
                        · refine lv_iinc (v := nI (i + 1)) (lv' := [(4, .int (nI (i + 1))), (0, .ref x), (1, .int (nI k)), (2, .int (nI ((h + 1)))), (3, .int (mm_b la))]) hx hb dX8_isTreeWhole_128 hl (k := 0) rfl (nI_add _ _) (by decide) rfl (fun ls hl => ?_)
                          refine lv_goto (tgt := 44) hx hb dX8_isTreeWhole_131 (by decide) ?_
                          exact ih_44 (i + 1) (m9 + min (4 ^ h) (n - i * 4 ^ h)) H_120 I_120 F_120 _ _ (by omega) (by omega) (by rw [Nat.succ_mul]; omega) (lv_sub hl [0, 1, 2, 3, 4] rfl) hT (hxi.tr hx_120) (hk_120.trans (by rw [Nat.add_assoc])) (he.tr he_120) (fun j hj => (hlo_120 j (by omega)).trans (hlo j hj)) (fun j hj => by by_cases z : j < m9; exact (hlo_120 _ (by omega)).trans (hhi j z); have := hhi_120 (j - m9) (by omega); rw [show q + m9 + (j - m9) = q + j by omega, show i * 4 ^ h + (j - m9) = j by omega] at this; exact this) hS
                        · exact absurd c_123 (by decide)
                      · refine lv_iload hx hb dX8_isTreeWhole_103 (lv_at hl 0 rfl) ?_
                        refine lv_aload_n hx hb dX8_isTreeWhole_105 rfl (lv_at hl 1 rfl) ?_
                        refine lv_iload_n hx hb dX8_isTreeWhole_106 rfl (lv_at hl 2 rfl) ?_
                        refine mm_rpu (va_runV (As := [.int (nI k)]) (rest := [.int (nI i), .int (nI h), .int (nI (s_chd S k i)), .ref x]) ⟨hx, hb, hml, hown, hts⟩ (t_countOf l hT hR hW (by first | assumption | omega)) (cwV 1 hts (lw_V q2745 q2747 qs89 q164 q2748) rfl rfl rfl (by decide +kernel) ⟨by simp only [mm_rm]; omega, by simp only [mm_rm]; omega⟩) (mm_pV hKK (mm_rc hKK hT.2.1 mm_le.rf rfl)) rfl rfl hl.1 rfl (lv_room (Nat.le_of_ble_eq_true rfl)) dX8_isTreeWhole_107 ⟨Nat.le_of_ble_eq_true rfl, Nat.le_of_ble_eq_true rfl⟩) hS (mm_s0 hS) (fun L_107 hS => ?_)
                        refine lv_iconst (v := nI 1) hx hb dX8_isTreeWhole_110 (by decide) ?_
                        refine mm_isub (by omega) hx hb dX8_isTreeWhole_111 ?_
                        refine mm_icmp_ne (tgt := 119) (by omega) (by omega) hx hb dX8_isTreeWhole_112 (by decide) (fun c_112 => ?_) (fun c_112 => ?_)
                        · refine lv_iconst (v := nI 0) hx hb dX8_isTreeWhole_119 (by decide) ?_
                          refine mm_top (y := mm_b false) rfl ?_
                          have hmn : m9 + min (4 ^ h) (n - i * 4 ^ h) ≤ n := by omega
                          refine mm_ri (va_runV (As := [.int (nI (s_chd S k i)), .int (nI h), .int (mm_b false)]) (rest := []) ⟨hx, hb, hml, hown, hts⟩ (ihr hT hR ⟨g8 (by omega) i hi9, by omega⟩ (fun _ => by have h4 := cnt_lt g3 g5 (show i + 1 < s_cnt S k by omega); rw [Nat.succ_mul] at h4; omega) (show (q + m9) + min (4 ^ h) (n - i * 4 ^ h) ≤ 64 by omega) hk25) (cwV 3 hts (lw_V q3035 q3037 qs126 q164 q3038) rfl rfl rfl (by decide +kernel) ⟨by simp only [mm_rm]; omega, by simp only [mm_rm]; omega⟩) (mm_pV hKK (mm_rc hKK hT.2.1 mm_le.rf rfl)) rfl rfl hl.1 rfl (lv_room (Nat.le_of_ble_eq_true rfl)) dX8_isTreeWhole_120 ⟨Nat.le_of_ble_eq_true rfl, Nat.le_of_ble_eq_true rfl⟩) hS (mm_sS hS) (fun H_120 L_120 hB_120 hz_120 hq_120 hS => ?_)
                          obtain ⟨I_120, F_120, hT, hx_120, hk_120, he_120, hlo_120, hhi_120⟩ := hB_120
                          refine mm_ifneB (tgt := 128) hx hb dX8_isTreeWhole_123 (by decide) (fun c_123 => ?_) (fun c_123 => ?_)
                          · refine lv_iinc (v := nI (i + 1)) (lv' := [(4, .int (nI (i + 1))), (0, .ref x), (1, .int (nI k)), (2, .int (nI ((h + 1)))), (3, .int (mm_b la))]) hx hb dX8_isTreeWhole_128 hl (k := 0) rfl (nI_add _ _) (by decide) rfl (fun ls hl => ?_)
                            refine lv_goto (tgt := 44) hx hb dX8_isTreeWhole_131 (by decide) ?_
                            exact ih_44 (i + 1) (m9 + min (4 ^ h) (n - i * 4 ^ h)) H_120 I_120 F_120 _ _ (by omega) (by omega) (by rw [Nat.succ_mul]; omega) (lv_sub hl [0, 1, 2, 3, 4] rfl) hT (hxi.tr hx_120) (hk_120.trans (by rw [Nat.add_assoc])) (he.tr he_120) (fun j hj => (hlo_120 j (by omega)).trans (hlo j hj)) (fun j hj => by by_cases z : j < m9; exact (hlo_120 _ (by omega)).trans (hhi j z); have := hhi_120 (j - m9) (by omega); rw [show q + m9 + (j - m9) = q + j by omega, show i * 4 ^ h + (j - m9) = j by omega] at this; exact this) hS
                          · exact absurd c_123 (by decide)
                        · refine lv_iconst (v := nI 1) hx hb dX8_isTreeWhole_115 (by decide) ?_
                          refine mm_top (y := mm_b true) rfl ?_
                          refine lv_goto (tgt := 120) hx hb dX8_isTreeWhole_116 (by decide) ?_
                          have hmn : m9 + min (4 ^ h) (n - i * 4 ^ h) ≤ n := by omega
                          refine mm_ri (va_runV (As := [.int (nI (s_chd S k i)), .int (nI h), .int (mm_b true)]) (rest := []) ⟨hx, hb, hml, hown, hts⟩ (ihr hT hR ⟨g8 (by omega) i hi9, by omega⟩ (fun z => by cases z) (show (q + m9) + min (4 ^ h) (n - i * 4 ^ h) ≤ 64 by omega) hk25) (cwV 3 hts (lw_V q3035 q3037 qs126 q164 q3038) rfl rfl rfl (by decide +kernel) ⟨by simp only [mm_rm]; omega, by simp only [mm_rm]; omega⟩) (mm_pV hKK (mm_rc hKK hT.2.1 mm_le.rf rfl)) rfl rfl hl.1 rfl (lv_room (Nat.le_of_ble_eq_true rfl)) dX8_isTreeWhole_120 ⟨Nat.le_of_ble_eq_true rfl, Nat.le_of_ble_eq_true rfl⟩) hS (mm_sS hS) (fun H_120 L_120 hB_120 hz_120 hq_120 hS => ?_)
                          obtain ⟨I_120, F_120, hT, hx_120, hk_120, he_120, hlo_120, hhi_120⟩ := hB_120
                          refine mm_ifneB (tgt := 128) hx hb dX8_isTreeWhole_123 (by decide) (fun c_123 => ?_) (fun c_123 => ?_)
                          · refine lv_iinc (v := nI (i + 1)) (lv' := [(4, .int (nI (i + 1))), (0, .ref x), (1, .int (nI k)), (2, .int (nI ((h + 1)))), (3, .int (mm_b la))]) hx hb dX8_isTreeWhole_128 hl (k := 0) rfl (nI_add _ _) (by decide) rfl (fun ls hl => ?_)
                            refine lv_goto (tgt := 44) hx hb dX8_isTreeWhole_131 (by decide) ?_
                            exact ih_44 (i + 1) (m9 + min (4 ^ h) (n - i * 4 ^ h)) H_120 I_120 F_120 _ _ (by omega) (by omega) (by rw [Nat.succ_mul]; omega) (lv_sub hl [0, 1, 2, 3, 4] rfl) hT (hxi.tr hx_120) (hk_120.trans (by rw [Nat.add_assoc])) (he.tr he_120) (fun j hj => (hlo_120 j (by omega)).trans (hlo j hj)) (fun j hj => by by_cases z : j < m9; exact (hlo_120 _ (by omega)).trans (hhi j z); have := hhi_120 (j - m9) (by omega); rw [show q + m9 + (j - m9) = q + j by omega, show i * 4 ^ h + (j - m9) = j by omega] at this; exact this) hS
                          · exact absurd c_123 (by decide)
                    · exfalso; omega
              exact lp_44 _ 0 0 H I F _ _ (Nat.lt_succ_self _) (by omega) (by rw [Nat.zero_mul]; exact (Nat.min_eq_right (Nat.zero_le _)).symm) (lv_sub hl [0, 1, 2, 3, 4] rfl) hT exI.rf hk25 eqx.rf (fun j _ => rfl) (fun j hj => absurd hj (by omega)) hS
            · have hcf : s_cnt S k = 4 := by rw [g5, hla c_27, Nat.pow_succ]; exact cnt_full h
              refine lv_aload_n hx hb dX8_isTreeWhole_30 rfl (lv_at hl 0 rfl) ?_
              refine lv_iload_n hx hb dX8_isTreeWhole_31 rfl (lv_at hl 1 rfl) ?_
              refine mm_rpu (va_runV (As := [.int (nI k)]) (rest := []) ⟨hx, hb, hml, hown, hts⟩ (t_countOf l hT hR hW (by first | assumption | omega)) (cwV 1 hts (lw_V q2745 q2747 qs89 q164 q2748) rfl rfl rfl (by decide +kernel) ⟨by simp only [mm_rm]; omega, by simp only [mm_rm]; omega⟩) (mm_pV hKK (mm_rc hKK hT.2.1 mm_le.rf rfl)) rfl rfl hl.1 rfl (lv_room (Nat.le_of_ble_eq_true rfl)) dX8_isTreeWhole_32 ⟨Nat.le_of_ble_eq_true rfl, Nat.le_of_ble_eq_true rfl⟩) hS (mm_s0 hS) (fun L_32 hS => ?_)
              refine lv_iconst (v := nI 4) hx hb dX8_isTreeWhole_35 (by decide) ?_
              refine mm_icmp_ge (tgt := 41) (by omega) (by omega) hx hb dX8_isTreeWhole_36 (by decide) (fun c_36 => ?_) (fun c_36 => ?_)
              · refine lv_iconst (v := nI 0) hx hb dX8_isTreeWhole_41 (by decide) ?_
                refine lv_istore (lv' := [(4, .int (nI 0)), (0, .ref x), (1, .int (nI k)), (2, .int (nI ((h + 1)))), (3, .int (mm_b la))]) hx hb dX8_isTreeWhole_42 hl (by decide) rfl (fun ls hl => ?_)
                have lp_44 : ∀ (fu : Nat) (i : Nat) (m9 : Nat) (H1 : Heap) (I1 : Nat → Int32) (F1 : Nat → Nat → Int32) (L : List Loc) (ls : Array Slot), s_cnt S k - i < fu → (i ≤ s_cnt S k) → (m9 = min n (i * 4 ^ h)) → lv_has ls 5 [(4, .int (nI i)), (0, .ref x), (1, .int (nI k)), (2, .int (nI ((h + 1)))), (3, .int (mm_b la))] → (TW G x ad I1 F1 H1) → (exI [25] I I1) → (I1 25 = nI (q + m9)) → (eqx [24] F F1) → (∀ j, j < q → F1 24 j = F 24 j) → (∀ j, j < m9 → F1 24 (q + j) = ev j) → va_S (mm_A (tw_M x ad) H) H H1 L → W p l e (mm_rm (((h + 1) + 2)) (((h + 1) * 60 + 60)) 0 0) s m ([.ref x, .int (nI k), .int (nI ((h + 1))), .int (mm_b la)] : List Value).toArray below meth c H1 L 0 0 (MQ below (mm_Qc H (tw_M x ad) (mm_i (mm_b true) (fun H2 => ∃ I2 F2, TW G x ad I2 F2 H2 ∧ exI [25] I I2 ∧ I2 25 = nI (q + n) ∧ eqx [24] F F2 ∧ (∀ j, j < q → F2 24 j = F 24 j) ∧ ∀ j, j < n → F2 24 (q + j) = ev j))) ([.ref x, .int (nI k), .int (nI ((h + 1))), .int (mm_b la)] : List Value).toArray s 0 0 (mm_A (tw_M x ad) H)) (F0 m 44 ls []) := by
                  intro fu; induction fu with
                  | zero => intro i m9 H1 I1 F1 L ls hfu; exact absurd hfu (Nat.not_lt_zero _)
                  | succ fu ih =>
                    intro i m9 H1 I1 F1 L ls hfu hi hm hl hT hxi hk25 he hlo hhi hS
                    have ih_44 := ih
                    have hR := TRx he (by decide) hR0
                    refine lv_iload hx hb dX8_isTreeWhole_44 (lv_at hl 0 rfl) ?_
                    refine lv_aload_n hx hb dX8_isTreeWhole_46 rfl (lv_at hl 1 rfl) ?_
                    refine lv_iload_n hx hb dX8_isTreeWhole_47 rfl (lv_at hl 2 rfl) ?_
                    refine mm_rpu (va_runV (As := [.int (nI k)]) (rest := [.int (nI i)]) ⟨hx, hb, hml, hown, hts⟩ (t_countOf l hT hR hW (by first | assumption | omega)) (cwV 1 hts (lw_V q2745 q2747 qs89 q164 q2748) rfl rfl rfl (by decide +kernel) ⟨by simp only [mm_rm]; omega, by simp only [mm_rm]; omega⟩) (mm_pV hKK (mm_rc hKK hT.2.1 mm_le.rf rfl)) rfl rfl hl.1 rfl (lv_room (Nat.le_of_ble_eq_true rfl)) dX8_isTreeWhole_48 ⟨Nat.le_of_ble_eq_true rfl, Nat.le_of_ble_eq_true rfl⟩) hS (mm_s0 hS) (fun L_48 hS => ?_)
                    refine mm_icmp_ge (tgt := 134) (by omega) (by omega) hx hb dX8_isTreeWhole_51 (by decide) (fun c_51 => ?_) (fun c_51 => ?_)
                    · refine lv_iconst (v := nI 1) hx hb dX8_isTreeWhole_134 (by decide) ?_
                      refine mm_top (y := mm_b true) rfl ?_
                      have hfin : m9 = n := by have hcv := cnt_cov hb4 g3 g5; rw [show i = s_cnt S k by omega] at hm; omega
                      exact mm_zret (v := mm_b true) hx hb hr hlk hS (Nat.le_of_ble_eq_true rfl) (Nat.le_of_ble_eq_true rfl) (mm_nb _) (⟨rfl, I1, F1, hT, hxi, by rw [hk25, hfin], he, hlo, fun j hj => hhi j (by omega)⟩) dX8_isTreeWhole_135
                    · have hi9 : i < s_cnt S k := c_51
                      have hlt9 := cnt_lt g3 g5 hi9
                      have hmP : m9 = i * 4 ^ h := by omega
                      refine lv_iload_n hx hb dX8_isTreeWhole_54 rfl (lv_at hl 3 rfl) ?_
                      refine lv_iconst (v := nI 1) hx hb dX8_isTreeWhole_55 (by decide) ?_
                      refine mm_icmp_ne (tgt := 88) (by omega) (by omega) hx hb dX8_isTreeWhole_56 (by decide) (fun c_56 => ?_) (fun c_56 => ?_)
                      · refine lv_aload_n hx hb dX8_isTreeWhole_88 rfl (lv_at hl 1 rfl) ?_
                        refine lv_aload_n hx hb dX8_isTreeWhole_89 rfl (lv_at hl 1 rfl) ?_
                        refine lv_iload_n hx hb dX8_isTreeWhole_90 rfl (lv_at hl 2 rfl) ?_
                        refine lv_iload hx hb dX8_isTreeWhole_91 (lv_at hl 0 rfl) ?_
                        refine mm_rpu (va_runV (As := [.int (nI k), .int (nI i)]) (rest := [.ref x]) ⟨hx, hb, hml, hown, hts⟩ (t_entry l hT hR hW (by first | assumption | omega) (by first | assumption | omega)) (cwV 2 hts (lw_V q2753 q2755 qs91 q164 q2756) rfl rfl rfl (by decide +kernel) ⟨by simp only [mm_rm]; omega, by simp only [mm_rm]; omega⟩) (mm_pV hKK (mm_rc hKK hT.2.1 mm_le.rf rfl)) rfl rfl hl.1 rfl (lv_room (Nat.le_of_ble_eq_true rfl)) dX8_isTreeWhole_93 ⟨Nat.le_of_ble_eq_true rfl, Nat.le_of_ble_eq_true rfl⟩) hS (mm_s0 hS) (fun L_93 hS => ?_)
                        refine mm_top (y := nI (s_chd S k i)) ((hW.ent g1 hlf hi9).1) ?_
                        refine lv_iload_n hx hb dX8_isTreeWhole_96 rfl (lv_at hl 3 rfl) ?_
                        refine lv_iconst (v := nI 1) hx hb dX8_isTreeWhole_97 (by decide) ?_
                        refine mm_isub (by omega) hx hb dX8_isTreeWhole_98 ?_
                        refine mm_top (y := nI h) (congrArg nI (Nat.add_sub_cancel h 1)) ?_
                        refine lv_iload_n hx hb dX8_isTreeWhole_99 rfl (lv_at hl 4 rfl) ?_
                        refine mm_ifeqB (tgt := 119) hx hb dX8_isTreeWhole_100 (by decide) (fun c_100 => ?_) (fun c_100 => ?_)
                        · refine lv_iconst (v := nI 0) hx hb dX8_isTreeWhole_119 (by decide) ?_
                          refine mm_top (y := mm_b false) rfl ?_
                          have hmn : m9 + min (4 ^ h) (n - i * 4 ^ h) ≤ n := by omega
                          refine mm_ri (va_runV (As := [.int (nI (s_chd S k i)), .int (nI h), .int (mm_b false)]) (rest := []) ⟨hx, hb, hml, hown, hts⟩ (ihr hT hR ⟨g8 (by omega) i hi9, by omega⟩ (fun _ => by have hq4 := hla c_100; have h4 := Nat.mul_le_mul_right (4 ^ h) (show i + 1 ≤ 4 by omega); rw [Nat.pow_succ] at hq4; rw [Nat.succ_mul] at h4; omega) (show (q + m9) + min (4 ^ h) (n - i * 4 ^ h) ≤ 64 by omega) hk25) (cwV 3 hts (lw_V q3035 q3037 qs126 q164 q3038) rfl rfl rfl (by decide +kernel) ⟨by simp only [mm_rm]; omega, by simp only [mm_rm]; omega⟩) (mm_pV hKK (mm_rc hKK hT.2.1 mm_le.rf rfl)) rfl rfl hl.1 rfl (lv_room (Nat.le_of_ble_eq_true rfl)) dX8_isTreeWhole_120 ⟨Nat.le_of_ble_eq_true rfl, Nat.le_of_ble_eq_true rfl⟩) hS (mm_sS hS) (fun H_120 L_120 hB_120 hz_120 hq_120 hS => ?_)
                          obtain ⟨I_120, F_120, hT, hx_120, hk_120, he_120, hlo_120, hhi_120⟩ := hB_120
                          refine mm_ifneB (tgt := 128) hx hb dX8_isTreeWhole_123 (by decide) (fun c_123 => ?_) (fun c_123 => ?_)
                          · refine lv_iinc (v := nI (i + 1)) (lv' := [(4, .int (nI (i + 1))), (0, .ref x), (1, .int (nI k)), (2, .int (nI ((h + 1)))), (3, .int (mm_b la))]) hx hb dX8_isTreeWhole_128 hl (k := 0) rfl (nI_add _ _) (by decide) rfl (fun ls hl => ?_)
                            refine lv_goto (tgt := 44) hx hb dX8_isTreeWhole_131 (by decide) ?_
                            exact ih_44 (i + 1) (m9 + min (4 ^ h) (n - i * 4 ^ h)) H_120 I_120 F_120 _ _ (by omega) (by omega) (by rw [Nat.succ_mul]; omega) (lv_sub hl [0, 1, 2, 3, 4] rfl) hT (hxi.tr hx_120) (hk_120.trans (by rw [Nat.add_assoc])) (he.tr he_120) (fun j hj => (hlo_120 j (by omega)).trans (hlo j hj)) (fun j hj => by by_cases z : j < m9; exact (hlo_120 _ (by omega)).trans (hhi j z); have := hhi_120 (j - m9) (by omega); rw [show q + m9 + (j - m9) = q + j by omega, show i * 4 ^ h + (j - m9) = j by omega] at this; exact this) hS
                          · exact absurd c_123 (by decide)
                        · refine lv_iload hx hb dX8_isTreeWhole_103 (lv_at hl 0 rfl) ?_
                          refine lv_aload_n hx hb dX8_isTreeWhole_105 rfl (lv_at hl 1 rfl) ?_
                          refine lv_iload_n hx hb dX8_isTreeWhole_106 rfl (lv_at hl 2 rfl) ?_
                          refine mm_rpu (va_runV (As := [.int (nI k)]) (rest := [.int (nI i), .int (nI h), .int (nI (s_chd S k i)), .ref x]) ⟨hx, hb, hml, hown, hts⟩ (t_countOf l hT hR hW (by first | assumption | omega)) (cwV 1 hts (lw_V q2745 q2747 qs89 q164 q2748) rfl rfl rfl (by decide +kernel) ⟨by simp only [mm_rm]; omega, by simp only [mm_rm]; omega⟩) (mm_pV hKK (mm_rc hKK hT.2.1 mm_le.rf rfl)) rfl rfl hl.1 rfl (lv_room (Nat.le_of_ble_eq_true rfl)) dX8_isTreeWhole_107 ⟨Nat.le_of_ble_eq_true rfl, Nat.le_of_ble_eq_true rfl⟩) hS (mm_s0 hS) (fun L_107 hS => ?_)
                          refine lv_iconst (v := nI 1) hx hb dX8_isTreeWhole_110 (by decide) ?_
                          refine mm_isub (by omega) hx hb dX8_isTreeWhole_111 ?_
                          refine mm_icmp_ne (tgt := 119) (by omega) (by omega) hx hb dX8_isTreeWhole_112 (by decide) (fun c_112 => ?_) (fun c_112 => ?_)
                          · refine lv_iconst (v := nI 0) hx hb dX8_isTreeWhole_119 (by decide) ?_
                            refine mm_top (y := mm_b false) rfl ?_
                            have hmn : m9 + min (4 ^ h) (n - i * 4 ^ h) ≤ n := by omega
                            refine mm_ri (va_runV (As := [.int (nI (s_chd S k i)), .int (nI h), .int (mm_b false)]) (rest := []) ⟨hx, hb, hml, hown, hts⟩ (ihr hT hR ⟨g8 (by omega) i hi9, by omega⟩ (fun _ => by have h4 := cnt_lt g3 g5 (show i + 1 < s_cnt S k by omega); rw [Nat.succ_mul] at h4; omega) (show (q + m9) + min (4 ^ h) (n - i * 4 ^ h) ≤ 64 by omega) hk25) (cwV 3 hts (lw_V q3035 q3037 qs126 q164 q3038) rfl rfl rfl (by decide +kernel) ⟨by simp only [mm_rm]; omega, by simp only [mm_rm]; omega⟩) (mm_pV hKK (mm_rc hKK hT.2.1 mm_le.rf rfl)) rfl rfl hl.1 rfl (lv_room (Nat.le_of_ble_eq_true rfl)) dX8_isTreeWhole_120 ⟨Nat.le_of_ble_eq_true rfl, Nat.le_of_ble_eq_true rfl⟩) hS (mm_sS hS) (fun H_120 L_120 hB_120 hz_120 hq_120 hS => ?_)
                            obtain ⟨I_120, F_120, hT, hx_120, hk_120, he_120, hlo_120, hhi_120⟩ := hB_120
                            refine mm_ifneB (tgt := 128) hx hb dX8_isTreeWhole_123 (by decide) (fun c_123 => ?_) (fun c_123 => ?_)
                            · refine lv_iinc (v := nI (i + 1)) (lv' := [(4, .int (nI (i + 1))), (0, .ref x), (1, .int (nI k)), (2, .int (nI ((h + 1)))), (3, .int (mm_b la))]) hx hb dX8_isTreeWhole_128 hl (k := 0) rfl (nI_add _ _) (by decide) rfl (fun ls hl => ?_)
                              refine lv_goto (tgt := 44) hx hb dX8_isTreeWhole_131 (by decide) ?_
                              exact ih_44 (i + 1) (m9 + min (4 ^ h) (n - i * 4 ^ h)) H_120 I_120 F_120 _ _ (by omega) (by omega) (by rw [Nat.succ_mul]; omega) (lv_sub hl [0, 1, 2, 3, 4] rfl) hT (hxi.tr hx_120) (hk_120.trans (by rw [Nat.add_assoc])) (he.tr he_120) (fun j hj => (hlo_120 j (by omega)).trans (hlo j hj)) (fun j hj => by by_cases z : j < m9; exact (hlo_120 _ (by omega)).trans (hhi j z); have := hhi_120 (j - m9) (by omega); rw [show q + m9 + (j - m9) = q + j by omega, show i * 4 ^ h + (j - m9) = j by omega] at this; exact this) hS
                            · exact absurd c_123 (by decide)
                          · refine lv_iconst (v := nI 1) hx hb dX8_isTreeWhole_115 (by decide) ?_
                            refine mm_top (y := mm_b true) rfl ?_
                            refine lv_goto (tgt := 120) hx hb dX8_isTreeWhole_116 (by decide) ?_
                            have hmn : m9 + min (4 ^ h) (n - i * 4 ^ h) ≤ n := by omega
                            refine mm_ri (va_runV (As := [.int (nI (s_chd S k i)), .int (nI h), .int (mm_b true)]) (rest := []) ⟨hx, hb, hml, hown, hts⟩ (ihr hT hR ⟨g8 (by omega) i hi9, by omega⟩ (fun z => by cases z) (show (q + m9) + min (4 ^ h) (n - i * 4 ^ h) ≤ 64 by omega) hk25) (cwV 3 hts (lw_V q3035 q3037 qs126 q164 q3038) rfl rfl rfl (by decide +kernel) ⟨by simp only [mm_rm]; omega, by simp only [mm_rm]; omega⟩) (mm_pV hKK (mm_rc hKK hT.2.1 mm_le.rf rfl)) rfl rfl hl.1 rfl (lv_room (Nat.le_of_ble_eq_true rfl)) dX8_isTreeWhole_120 ⟨Nat.le_of_ble_eq_true rfl, Nat.le_of_ble_eq_true rfl⟩) hS (mm_sS hS) (fun H_120 L_120 hB_120 hz_120 hq_120 hS => ?_)
                            obtain ⟨I_120, F_120, hT, hx_120, hk_120, he_120, hlo_120, hhi_120⟩ := hB_120
                            refine mm_ifneB (tgt := 128) hx hb dX8_isTreeWhole_123 (by decide) (fun c_123 => ?_) (fun c_123 => ?_)
                            · refine lv_iinc (v := nI (i + 1)) (lv' := [(4, .int (nI (i + 1))), (0, .ref x), (1, .int (nI k)), (2, .int (nI ((h + 1)))), (3, .int (mm_b la))]) hx hb dX8_isTreeWhole_128 hl (k := 0) rfl (nI_add _ _) (by decide) rfl (fun ls hl => ?_)
                              refine lv_goto (tgt := 44) hx hb dX8_isTreeWhole_131 (by decide) ?_
                              exact ih_44 (i + 1) (m9 + min (4 ^ h) (n - i * 4 ^ h)) H_120 I_120 F_120 _ _ (by omega) (by omega) (by rw [Nat.succ_mul]; omega) (lv_sub hl [0, 1, 2, 3, 4] rfl) hT (hxi.tr hx_120) (hk_120.trans (by rw [Nat.add_assoc])) (he.tr he_120) (fun j hj => (hlo_120 j (by omega)).trans (hlo j hj)) (fun j hj => by by_cases z : j < m9; exact (hlo_120 _ (by omega)).trans (hhi j z); have := hhi_120 (j - m9) (by omega); rw [show q + m9 + (j - m9) = q + j by omega, show i * 4 ^ h + (j - m9) = j by omega] at this; exact this) hS
                            · exact absurd c_123 (by decide)
                      · exfalso; omega
                exact lp_44 _ 0 0 H I F _ _ (Nat.lt_succ_self _) (by omega) (by rw [Nat.zero_mul]; exact (Nat.min_eq_right (Nat.zero_le _)).symm) (lv_sub hl [0, 1, 2, 3, 4] rfl) hT exI.rf hk25 eqx.rf (fun j _ => rfl) (fun j hj => absurd hj (by omega)) hS
              · exfalso; omega
        · exfalso; omega
set_option maxRecDepth 100000 in
theorem t_isVersionConsistent (l : Launch) {G : mm_G} {P : mm_H} {H : Heap} {x : Nat} {ad : Nat → Nat} {I : Nat → Int32} {F : Nat → Nat → Int32} {S : sp_S} {v : Nat} (hT : TW G x ad I F H) (hR : TR (F 0) S) (hW : WF S) (hv : v < s_nv S) (hg : RgV S v) : Mt l yX8_isVersionConsistent (ws_ yX8_isVersionConsistent cX8_isVersionConsistent 4 (some .boolean)) 8 400 0 0 G P [.ref x, .int (nI v)] H (tw_M x ad) (mm_i (mm_b true) (fun H2 => ∃ I2 F2, TW G x ad I2 F2 H2 ∧ exI [25] I I2 ∧ eqx [24] F F2)) := by
  refine Mt.of (by decide) (Nat.le_of_ble_eq_true rfl) (fun p e s m below meth c ls hx hb hr hlk hml hown hnm hts hKK hsH hl hS => ?_)
  have hl : lv_has ls 4 [(0, .ref x), (1, .int (nI v))] := hl
  have hR0 := hR
  have hMx : mm_A (tw_M x ad) H x := Or.inl (Or.inl rfl)
  have hMa : ∀ j, tw_isA j = true → mm_A (tw_M x ad) H (ad j) := fun j hj => Or.inl (Or.inr ⟨j, hj, rfl⟩)
  have hnv := hW.nv
  have hnn := hW.nn
  have hlen9 := hW.len hv
  have hh3 := hf_le (s_len S v)
  have hro : ∀ r, s_root S v = some r → r < s_nn S := fun r hr => hW.root hv hr
  have hg9 : RegO S (hf (s_len S v)) (s_root S v) (s_len S v) (s_els S v) := hg
  refine lv_aload_n hx hb dX8_isVersionConsistent_0 rfl (lv_at hl 0 rfl) ?_
  refine lv_iconst (v := nI 0) hx hb dX8_isVersionConsistent_1 (by decide) ?_
  refine tw_put 25 hx hb hts hown hKK hT hS (hMx) (by decide) rfl (by decide) ⟨rfl, rfl⟩ (hts _ q2523) dX8_isVersionConsistent_2 (fun H_2 L_2 hT hz_2 hq_2 hS => ?_)
  refine lv_aload_n hx hb dX8_isVersionConsistent_5 rfl (lv_at hl 0 rfl) ?_
  refine lv_iload_n hx hb dX8_isVersionConsistent_6 rfl (lv_at hl 1 rfl) ?_
  refine mm_rpu (va_runV (As := [.int (nI v)]) (rest := []) ⟨hx, hb, hml, hown, hts⟩ (t_root l hT hR hW (by first | assumption | omega)) (cwV 1 hts (lw_V q2729 q2731 qs85 q164 q2732) rfl rfl rfl (by decide +kernel) ⟨Nat.le_of_ble_eq_true rfl, Nat.le_of_ble_eq_true rfl⟩) (mm_pV hKK (mm_rc hKK hT.2.1 mm_le.rf rfl)) rfl rfl hl.1 rfl (lv_room (Nat.le_of_ble_eq_true rfl)) dX8_isVersionConsistent_7 ⟨Nat.le_of_ble_eq_true rfl, Nat.le_of_ble_eq_true rfl⟩) hS (mm_s0 hS) (fun L_7 hS => ?_)
  refine lv_istore_n (lv' := [(2, .int (oI (s_root S v))), (0, .ref x), (1, .int (nI v))]) hx hb dX8_isVersionConsistent_10 rfl hl (by decide) rfl (fun ls hl => ?_)
  refine lv_iload_n hx hb dX8_isVersionConsistent_11 rfl (lv_at hl 0 rfl) ?_
  refine lv_iconst (v := (-1)) hx hb dX8_isVersionConsistent_12 (by decide) ?_
  refine mm_icmp_neM (tgt := 30) (fun r hr => by have := hro r hr; omega) hx hb dX8_isVersionConsistent_13 (by decide) (fun r_13 c_13 => ?_) (fun c_13 => ?_)
  · have hrg : Reg S (hf (s_len S v)) r_13 (s_len S v) (s_els S v) := by rw [c_13] at hg9; exact hg9
    refine lv_aload_n hx hb dX8_isVersionConsistent_30 rfl (lv_at hl 1 rfl) ?_
    refine lv_iload_n hx hb dX8_isVersionConsistent_31 rfl (lv_at hl 0 rfl) ?_
    refine mm_top (y := nI r_13) (oI_some c_13) ?_
    refine lv_aload_n hx hb dX8_isVersionConsistent_32 rfl (lv_at hl 1 rfl) ?_
    refine lv_iload_n hx hb dX8_isVersionConsistent_33 rfl (lv_at hl 2 rfl) ?_
    refine mm_rpu (va_runV (As := [.int (nI v)]) (rest := [.int (nI r_13), .ref x]) ⟨hx, hb, hml, hown, hts⟩ (t_heightOf l hT hR hW (by first | assumption | omega)) (cwV 1 hts (lw_V q2733 q2735 qs86 q164 q2736) rfl rfl rfl (by decide +kernel) ⟨Nat.le_of_ble_eq_true rfl, Nat.le_of_ble_eq_true rfl⟩) (mm_pV hKK (mm_rc hKK hT.2.1 mm_le.rf rfl)) rfl rfl hl.1 rfl (lv_room (Nat.le_of_ble_eq_true rfl)) dX8_isVersionConsistent_34 ⟨Nat.le_of_ble_eq_true rfl, Nat.le_of_ble_eq_true rfl⟩) hS (mm_s0 hS) (fun L_34 hS => ?_)
    refine lv_iconst (v := nI 1) hx hb dX8_isVersionConsistent_37 (by decide) ?_
    refine mm_top (y := mm_b true) rfl ?_
    refine mm_ri (va_runV (As := [.int (nI r_13), .int (nI (hf (s_len S v))), .int (mm_b true)]) (rest := []) ⟨hx, hb, hml, hown, hts⟩ (t_isTreeWhole l (hf (s_len S v)) (q := 0) hT hR hW ⟨hrg, hh3⟩ (fun z => by cases z) (by omega) (tw_up _ _ _)) (cwV 3 hts (lw_V q3035 q3037 qs126 q164 q3038) rfl rfl rfl (by decide +kernel) ⟨by simp only [mm_rm]; omega, by simp only [mm_rm]; omega⟩) (mm_pV hKK (mm_rc hKK hT.2.1 mm_le.rf rfl)) rfl rfl hl.1 rfl (lv_room (Nat.le_of_ble_eq_true rfl)) dX8_isVersionConsistent_38 ⟨Nat.le_of_ble_eq_true rfl, Nat.le_of_ble_eq_true rfl⟩) hS (mm_sS hS) (fun H_38 L_38 hB_38 hz_38 hq_38 hS => ?_)
    obtain ⟨I_38, F_38, hT, hx_38, hk_38, he_38, hlo_38, hhi_38⟩ := hB_38
    have hR := TRx he_38 (by decide) hR0
    refine mm_ifeqB (tgt := 56) hx hb dX8_isVersionConsistent_41 (by decide) (fun c_41 => ?_) (fun c_41 => ?_)
    · exact absurd c_41 (by decide)
    · refine lv_aload_n hx hb dX8_isVersionConsistent_44 rfl (lv_at hl 1 rfl) ?_
      refine tw_geti 25 (v := nI (s_len S v)) hx hb hts hown hKK hT (by decide) rfl ((hk_38.trans (congrArg nI (Nat.zero_add _)))) (hts _ q2523) dX8_isVersionConsistent_45 ?_
      refine lv_aload_n hx hb dX8_isVersionConsistent_48 rfl (lv_at hl 1 rfl) ?_
      refine lv_iload_n hx hb dX8_isVersionConsistent_49 rfl (lv_at hl 2 rfl) ?_
      refine mm_rpu (va_runV (As := [.int (nI v)]) (rest := [.int (nI (s_len S v))]) ⟨hx, hb, hml, hown, hts⟩ (t_lengthOf l hT hR hW (by first | assumption | omega)) (cwV 1 hts (lw_V q2487 q2489 qs60 q164 q2490) rfl rfl rfl (by decide +kernel) ⟨Nat.le_of_ble_eq_true rfl, Nat.le_of_ble_eq_true rfl⟩) (mm_pV hKK (mm_rc hKK hT.2.1 mm_le.rf rfl)) rfl rfl hl.1 rfl (lv_room (Nat.le_of_ble_eq_true rfl)) dX8_isVersionConsistent_50 ⟨Nat.le_of_ble_eq_true rfl, Nat.le_of_ble_eq_true rfl⟩) hS (mm_s0 hS) (fun L_50 hS => ?_)
      refine mm_icmp_eq (tgt := 58) (by omega) (by omega) hx hb dX8_isVersionConsistent_53 (by decide) (fun c_53 => ?_) (fun c_53 => ?_)
      · refine lv_iconst (v := nI 0) hx hb dX8_isVersionConsistent_58 (by decide) ?_
        refine lv_istore_n (lv' := [(3, .int (nI 0)), (2, .int (oI (s_root S v))), (0, .ref x), (1, .int (nI v))]) hx hb dX8_isVersionConsistent_59 rfl hl (by decide) rfl (fun ls hl => ?_)
        have lp_60 : ∀ (fu : Nat) (i : Nat)  (L : List Loc) (ls : Array Slot), s_len S v - i < fu → (i ≤ s_len S v) → lv_has ls 4 [(3, .int (nI i)), (0, .ref x), (1, .int (nI v))] → va_S (mm_A (tw_M x ad) H) H H_38 L → W p l e (mm_rm 8 400 0 0) s m ([.ref x, .int (nI v)] : List Value).toArray below meth c H_38 L 0 0 (MQ below (mm_Qc H (tw_M x ad) (mm_i (mm_b true) (fun H2 => ∃ I2 F2, TW G x ad I2 F2 H2 ∧ exI [25] I I2 ∧ eqx [24] F F2))) ([.ref x, .int (nI v)] : List Value).toArray s 0 0 (mm_A (tw_M x ad) H)) (F0 m 60 ls []) := by
          intro fu; induction fu with
          | zero => intro i L ls hfu; exact absurd hfu (Nat.not_lt_zero _)
          | succ fu ih =>
            intro i L ls hfu hi hl  hS
            have ih_60 := ih
            refine lv_iload_n hx hb dX8_isVersionConsistent_60 rfl (lv_at hl 0 rfl) ?_
            refine lv_aload_n hx hb dX8_isVersionConsistent_61 rfl (lv_at hl 1 rfl) ?_
            refine tw_geti 25 (v := nI (s_len S v)) hx hb hts hown hKK hT (by decide) rfl ((hk_38.trans (congrArg nI (Nat.zero_add _)))) (hts _ q2523) dX8_isVersionConsistent_62 ?_
            refine mm_icmp_ge (tgt := 91) (by omega) (by omega) hx hb dX8_isVersionConsistent_65 (by decide) (fun c_65 => ?_) (fun c_65 => ?_)
            · refine lv_iconst (v := nI 1) hx hb dX8_isVersionConsistent_91 (by decide) ?_
              refine mm_top (y := mm_b true) rfl ?_
              exact mm_zret (v := mm_b true) hx hb hr hlk hS (Nat.le_of_ble_eq_true rfl) (Nat.le_of_ble_eq_true rfl) (mm_nb _) (⟨rfl, _, F_38, hT, (exI.u (by decide)).tr hx_38, he_38⟩) dX8_isVersionConsistent_92
            · refine lv_aload_n hx hb dX8_isVersionConsistent_68 rfl (lv_at hl 1 rfl) ?_
              refine tw_geta 24 hx hb hts hown hKK hT rfl rfl (hts _ q2522) dX8_isVersionConsistent_69 ?_
              refine lv_iload_n hx hb dX8_isVersionConsistent_72 rfl (lv_at hl 0 rfl) ?_
              refine mm_iald (k := i) hx hb hKK (hT.2.2 24 rfl) mm_le.rf (by show _ < 64; omega) (by decide) dX8_isVersionConsistent_73 ?_
              refine mm_top (y := s_els S v i) (by have := hhi_38 i (by omega); rw [Nat.zero_add] at this; exact this) ?_
              refine lv_aload_n hx hb dX8_isVersionConsistent_74 rfl (lv_at hl 1 rfl) ?_
              refine lv_iload_n hx hb dX8_isVersionConsistent_75 rfl (lv_at hl 2 rfl) ?_
              refine lv_iload_n hx hb dX8_isVersionConsistent_76 rfl (lv_at hl 0 rfl) ?_
              refine mm_rpu (va_runV (As := [.int (nI v), .int (nI i)]) (rest := [.int (s_els S v i)]) ⟨hx, hb, hml, hown, hts⟩ (t_element l hT hR hW (by first | assumption | omega) (by first | assumption | omega)) (cwV 2 hts (lw_V q2494 q2496 qs61 q164 q2497) rfl rfl rfl (by decide +kernel) ⟨Nat.le_of_ble_eq_true rfl, Nat.le_of_ble_eq_true rfl⟩) (mm_pV hKK (mm_rc hKK hT.2.1 mm_le.rf rfl)) rfl rfl hl.1 rfl (lv_room (Nat.le_of_ble_eq_true rfl)) dX8_isVersionConsistent_77 ⟨Nat.le_of_ble_eq_true rfl, Nat.le_of_ble_eq_true rfl⟩) hS (mm_s0 hS) (fun L_77 hS => ?_)
              refine lv_icmp_eq (tgt := 85) hx hb dX8_isVersionConsistent_80 (by decide) (fun c_80 => ?_) (fun c_80 => ?_)
              · refine lv_iinc (v := nI (i + 1)) (lv' := [(3, .int (nI (i + 1))), (0, .ref x), (1, .int (nI v))]) hx hb dX8_isVersionConsistent_85 hl (k := 0) rfl (nI_add _ _) (by decide) rfl (fun ls hl => ?_)
                refine lv_goto (tgt := 60) hx hb dX8_isVersionConsistent_88 (by decide) ?_
                exact ih_60 (i + 1) _ _ (by omega) (by omega) (lv_sub hl [0, 1, 2] rfl)  hS
              · exact absurd rfl c_80
        exact lp_60 _ 0 _ _ (Nat.lt_succ_self _) (by omega) (lv_sub hl [0, 2, 3] rfl)  hS
      · exfalso; omega
  · have hl0 : s_len S v = 0 := by rw [c_13] at hg9; exact hg9
    refine lv_aload_n hx hb dX8_isVersionConsistent_16 rfl (lv_at hl 1 rfl) ?_
    refine lv_iload_n hx hb dX8_isVersionConsistent_17 rfl (lv_at hl 2 rfl) ?_
    refine mm_rpu (va_runV (As := [.int (nI v)]) (rest := []) ⟨hx, hb, hml, hown, hts⟩ (t_lengthOf l hT hR hW (by first | assumption | omega)) (cwV 1 hts (lw_V q2487 q2489 qs60 q164 q2490) rfl rfl rfl (by decide +kernel) ⟨Nat.le_of_ble_eq_true rfl, Nat.le_of_ble_eq_true rfl⟩) (mm_pV hKK (mm_rc hKK hT.2.1 mm_le.rf rfl)) rfl rfl hl.1 rfl (lv_room (Nat.le_of_ble_eq_true rfl)) dX8_isVersionConsistent_18 ⟨Nat.le_of_ble_eq_true rfl, Nat.le_of_ble_eq_true rfl⟩) hS (mm_s0 hS) (fun L_18 hS => ?_)
    refine mm_if_ne (tgt := 28) (by omega) hx hb dX8_isVersionConsistent_21 (by decide) (fun c_21 => ?_) (fun c_21 => ?_)
    · exact absurd hl0 c_21
    · refine lv_iconst (v := nI 1) hx hb dX8_isVersionConsistent_24 (by decide) ?_
      refine mm_top (y := mm_b true) rfl ?_
      refine lv_goto (tgt := 29) hx hb dX8_isVersionConsistent_25 (by decide) ?_
      exact mm_zret (v := mm_b true) hx hb hr hlk hS (Nat.le_of_ble_eq_true rfl) (Nat.le_of_ble_eq_true rfl) (mm_nb _) (⟨rfl, _, F, hT, exI.u (by decide), eqx.rf⟩) dX8_isVersionConsistent_29
/-- reached nodes are those that are stored and held; the created numbers are all nodes -/
def NC (S : sp_S) : Prop := ∀ k, k < s_nn S → rch S k = (s_sto S k && hld S (s_nn S) k)
def CS (S : sp_S) : Prop := sumN (s_nv S) (s_cre S) = s_nn S
set_option maxRecDepth 100000 in
theorem t_areNodesConsistent (l : Launch) {G : mm_G} {P : mm_H} {H : Heap} {x : Nat} {ad : Nat → Nat} {I : Nat → Int32} {F : Nat → Nat → Int32} {S : sp_S} (hT : TW G x ad I F H) (hR : TR (F 0) S) (hW : WF S) (hG : HG S) (hNC : NC S) : Mt l yX8_areNodesConsistent (ws_ yX8_areNodesConsistent cX8_areNodesConsistent 3 (some .boolean)) 210 13000 0 0 G P [.ref x] H (tw_M x ad) (mm_i (mm_b true) (fun H2 => ∃ F2, TW G x ad I F2 H2 ∧ eqx [11] F F2)) := by
  refine Mt.of (by decide) (Nat.le_of_ble_eq_true rfl) (fun p e s m below meth c ls hx hb hr hlk hml hown hnm hts hKK hsH hl hS => ?_)
  have hl : lv_has ls 3 [(0, .ref x)] := hl
  have hR0 := hR
  have hMx : mm_A (tw_M x ad) H x := Or.inl (Or.inl rfl)
  have hMa : ∀ j, tw_isA j = true → mm_A (tw_M x ad) H (ad j) := fun j hj => Or.inl (Or.inr ⟨j, hj, rfl⟩)
  have hnv := hW.nv
  have hnn := hW.nn
  refine lv_aload_n hx hb dX8_areNodesConsistent_0 rfl (lv_at hl 0 rfl) ?_
  refine mm_rv (va_runV (As := []) (rest := []) ⟨hx, hb, hml, hown, hts⟩ (t_reachAll l hT hR hW hG) (cwV 0 hts (lw_V q2805 q2807 qs104 q164 q2808) rfl rfl rfl (by decide +kernel) ⟨Nat.le_of_ble_eq_true rfl, Nat.le_of_ble_eq_true rfl⟩) (mm_pV hKK (mm_rc hKK hT.2.1 mm_le.rf rfl)) rfl rfl hl.1 rfl (lv_room (Nat.le_of_ble_eq_true rfl)) dX8_areNodesConsistent_1 ⟨Nat.le_of_ble_eq_true rfl, Nat.le_of_ble_eq_true rfl⟩) hS (mm_sS hS) (fun H_1 L_1 hB_1 hz_1 hq_1 hS => ?_)
  obtain ⟨F_1, hT, he_1, h11_1⟩ := hB_1
  have hR := TRx he_1 (by decide) hR
  refine lv_iconst (v := nI 0) hx hb dX8_areNodesConsistent_4 (by decide) ?_
  refine lv_istore_n (lv' := [(1, .int (nI 0)), (0, .ref x)]) hx hb dX8_areNodesConsistent_5 rfl hl (by decide) rfl (fun ls hl => ?_)
  have lp_6 : ∀ (fu : Nat) (i : Nat)  (L : List Loc) (ls : Array Slot), s_nn S - i < fu → (i ≤ s_nn S) → lv_has ls 3 [(1, .int (nI i)), (0, .ref x)] → va_S (mm_A (tw_M x ad) H) H H_1 L → W p l e (mm_rm 210 13000 0 0) s m ([.ref x] : List Value).toArray below meth c H_1 L 0 0 (MQ below (mm_Qc H (tw_M x ad) (mm_i (mm_b true) (fun H2 => ∃ F2, TW G x ad I F2 H2 ∧ eqx [11] F F2))) ([.ref x] : List Value).toArray s 0 0 (mm_A (tw_M x ad) H)) (F0 m 6 ls []) := by
    intro fu; induction fu with
    | zero => intro i L ls hfu; exact absurd hfu (Nat.not_lt_zero _)
    | succ fu ih =>
      intro i L ls hfu hi hl  hS
      have ih_6 := ih
      have hrl := rcN_le hG hW i (s_nv S) (Nat.le_refl _)
      refine lv_iload_n hx hb dX8_areNodesConsistent_6 rfl (lv_at hl 0 rfl) ?_
      refine lv_aload_n hx hb dX8_areNodesConsistent_7 rfl (lv_at hl 1 rfl) ?_
      refine tw_geta 0 hx hb hts hown hKK hT rfl rfl (hts _ q2498) dX8_areNodesConsistent_8 ?_
      refine lv_iconst (v := nI 1) hx hb dX8_areNodesConsistent_11 (by decide) ?_
      refine mm_iald (k := 1) hx hb hKK (hT.2.2 0 rfl) mm_le.rf (by show _ < 4210; omega) (by decide) dX8_areNodesConsistent_12 ?_
      refine mm_top (y := nI (s_nn S)) (hR.nn) ?_
      refine mm_icmp_ge (tgt := 64) (by omega) (by omega) hx hb dX8_areNodesConsistent_13 (by decide) (fun c_13 => ?_) (fun c_13 => ?_)
      · refine lv_iconst (v := nI 1) hx hb dX8_areNodesConsistent_64 (by decide) ?_
        refine mm_top (y := mm_b true) rfl ?_
        exact mm_zret (v := mm_b true) hx hb hr hlk hS (Nat.le_of_ble_eq_true rfl) (Nat.le_of_ble_eq_true rfl) (mm_nb _) (⟨rfl, F_1, hT, he_1⟩) dX8_areNodesConsistent_65
      · have hnc9 := hNC i c_13
        refine lv_aload_n hx hb dX8_areNodesConsistent_16 rfl (lv_at hl 1 rfl) ?_
        refine tw_geta 11 hx hb hts hown hKK hT rfl rfl (hts _ q2509) dX8_areNodesConsistent_17 ?_
        refine lv_iload_n hx hb dX8_areNodesConsistent_20 rfl (lv_at hl 0 rfl) ?_
        refine mm_iald (k := i) hx hb hKK (hT.2.2 11 rfl) mm_le.rf (by show _ < 200; omega) (by decide) dX8_areNodesConsistent_21 ?_
        refine mm_top (y := nI (rcN S (s_nv S) i)) (h11_1 _ (by omega)) ?_
        refine mm_if_le (tgt := 29) (by omega) hx hb dX8_areNodesConsistent_22 (by decide) (fun c_22 => ?_) (fun c_22 => ?_)
        · have hrc : rch S i = false := by cases z : rch S i with | false => rfl | true => have := (rch_pos i).mpr z; omega
          refine lv_iconst (v := nI 0) hx hb dX8_areNodesConsistent_29 (by decide) ?_
          refine mm_top (y := mm_b false) rfl ?_
          refine lv_istore_n (lv' := [(2, .int (mm_b false)), (1, .int (nI i)), (0, .ref x)]) hx hb dX8_areNodesConsistent_30 rfl hl (by decide) rfl (fun ls hl => ?_)
          refine lv_iload_n hx hb dX8_areNodesConsistent_31 rfl (lv_at hl 0 rfl) ?_
          refine lv_aload_n hx hb dX8_areNodesConsistent_32 rfl (lv_at hl 2 rfl) ?_
          refine lv_iload_n hx hb dX8_areNodesConsistent_33 rfl (lv_at hl 1 rfl) ?_
          refine mm_rpu (va_runV (As := [.int (nI i)]) (rest := [.int (mm_b false)]) ⟨hx, hb, hml, hown, hts⟩ (t_isStored l hT hR hW) (cwV 1 hts (lw_V q2817 q2819 qs107 q164 q2820) rfl rfl rfl (by decide +kernel) ⟨Nat.le_of_ble_eq_true rfl, Nat.le_of_ble_eq_true rfl⟩) (mm_pV hKK (mm_rc hKK hT.2.1 mm_le.rf rfl)) rfl rfl hl.1 rfl (lv_room (Nat.le_of_ble_eq_true rfl)) dX8_areNodesConsistent_34 ⟨Nat.le_of_ble_eq_true rfl, Nat.le_of_ble_eq_true rfl⟩) hS (mm_s0 hS) (fun L_34 hS => ?_)
          refine mm_top (y := mm_b (s_sto S i)) (congrArg mm_b (isSt_n (by first | assumption | omega) hnn)) ?_
          refine mm_ifeqB (tgt := 52) hx hb dX8_areNodesConsistent_37 (by decide) (fun c_37 => ?_) (fun c_37 => ?_)
          · refine lv_iconst (v := nI 0) hx hb dX8_areNodesConsistent_52 (by decide) ?_
            refine mm_top (y := mm_b false) rfl ?_
            refine lv_icmp_eq (tgt := 58) hx hb dX8_areNodesConsistent_53 (by decide) (fun c_53 => ?_) (fun c_53 => ?_)
            · refine lv_iinc (v := nI (i + 1)) (lv' := [(1, .int (nI (i + 1))), (2, .int (mm_b false)), (0, .ref x)]) hx hb dX8_areNodesConsistent_58 hl (k := 1) rfl (nI_add _ _) (by decide) rfl (fun ls hl => ?_)
              refine lv_goto (tgt := 6) hx hb dX8_areNodesConsistent_61 (by decide) ?_
              exact ih_6 (i + 1) _ _ (by omega) (by omega) (lv_sub hl [0, 2] rfl)  hS
            · exact absurd rfl c_53
          · refine lv_aload_n hx hb dX8_areNodesConsistent_40 rfl (lv_at hl 2 rfl) ?_
            refine lv_iload_n hx hb dX8_areNodesConsistent_41 rfl (lv_at hl 1 rfl) ?_
            refine mm_rpu (va_runV (As := [.int (nI i)]) (rest := [.int (mm_b false)]) ⟨hx, hb, hml, hown, hts⟩ (t_isHeld l (s_nn S) hT hR hW (by omega) (by omega)) (cwV 1 hts (lw_V q3043 q3045 qs128 q164 q3046) rfl rfl rfl (by decide +kernel) ⟨by simp only [mm_rm]; omega, by simp only [mm_rm]; omega⟩) (mm_pV hKK (mm_rc hKK hT.2.1 mm_le.rf rfl)) rfl rfl hl.1 rfl (lv_room (Nat.le_of_ble_eq_true rfl)) dX8_areNodesConsistent_42 ⟨Nat.le_of_ble_eq_true rfl, Nat.le_of_ble_eq_true rfl⟩) hS (mm_s0 hS) (fun L_42 hS => ?_)
            refine mm_ifeqB (tgt := 52) hx hb dX8_areNodesConsistent_45 (by decide) (fun c_45 => ?_) (fun c_45 => ?_)
            · refine lv_iconst (v := nI 0) hx hb dX8_areNodesConsistent_52 (by decide) ?_
              refine mm_top (y := mm_b false) rfl ?_
              refine lv_icmp_eq (tgt := 58) hx hb dX8_areNodesConsistent_53 (by decide) (fun c_53 => ?_) (fun c_53 => ?_)
              · refine lv_iinc (v := nI (i + 1)) (lv' := [(1, .int (nI (i + 1))), (2, .int (mm_b false)), (0, .ref x)]) hx hb dX8_areNodesConsistent_58 hl (k := 1) rfl (nI_add _ _) (by decide) rfl (fun ls hl => ?_)
                refine lv_goto (tgt := 6) hx hb dX8_areNodesConsistent_61 (by decide) ?_
                exact ih_6 (i + 1) _ _ (by omega) (by omega) (lv_sub hl [0, 2] rfl)  hS
              · exact absurd rfl c_53
            · refine lv_iconst (v := nI 1) hx hb dX8_areNodesConsistent_48 (by decide) ?_
              refine mm_top (y := mm_b true) rfl ?_
              refine lv_goto (tgt := 53) hx hb dX8_areNodesConsistent_49 (by decide) ?_
              refine lv_icmp_eq (tgt := 58) hx hb dX8_areNodesConsistent_53 (by decide) (fun c_53 => ?_) (fun c_53 => ?_)
              · exact absurd c_53 (by decide)
              · exact absurd hnc9 (by rw [hrc, c_37, c_45]; simp)
        · have hrc : rch S i = true := (rch_pos i).mp (by omega)
          refine lv_iconst (v := nI 1) hx hb dX8_areNodesConsistent_25 (by decide) ?_
          refine mm_top (y := mm_b true) rfl ?_
          refine lv_goto (tgt := 30) hx hb dX8_areNodesConsistent_26 (by decide) ?_
          refine lv_istore_n (lv' := [(2, .int (mm_b true)), (1, .int (nI i)), (0, .ref x)]) hx hb dX8_areNodesConsistent_30 rfl hl (by decide) rfl (fun ls hl => ?_)
          refine lv_iload_n hx hb dX8_areNodesConsistent_31 rfl (lv_at hl 0 rfl) ?_
          refine lv_aload_n hx hb dX8_areNodesConsistent_32 rfl (lv_at hl 2 rfl) ?_
          refine lv_iload_n hx hb dX8_areNodesConsistent_33 rfl (lv_at hl 1 rfl) ?_
          refine mm_rpu (va_runV (As := [.int (nI i)]) (rest := [.int (mm_b true)]) ⟨hx, hb, hml, hown, hts⟩ (t_isStored l hT hR hW) (cwV 1 hts (lw_V q2817 q2819 qs107 q164 q2820) rfl rfl rfl (by decide +kernel) ⟨Nat.le_of_ble_eq_true rfl, Nat.le_of_ble_eq_true rfl⟩) (mm_pV hKK (mm_rc hKK hT.2.1 mm_le.rf rfl)) rfl rfl hl.1 rfl (lv_room (Nat.le_of_ble_eq_true rfl)) dX8_areNodesConsistent_34 ⟨Nat.le_of_ble_eq_true rfl, Nat.le_of_ble_eq_true rfl⟩) hS (mm_s0 hS) (fun L_34 hS => ?_)
          refine mm_top (y := mm_b (s_sto S i)) (congrArg mm_b (isSt_n (by first | assumption | omega) hnn)) ?_
          refine mm_ifeqB (tgt := 52) hx hb dX8_areNodesConsistent_37 (by decide) (fun c_37 => ?_) (fun c_37 => ?_)
          · refine lv_iconst (v := nI 0) hx hb dX8_areNodesConsistent_52 (by decide) ?_
            refine mm_top (y := mm_b false) rfl ?_
            refine lv_icmp_eq (tgt := 58) hx hb dX8_areNodesConsistent_53 (by decide) (fun c_53 => ?_) (fun c_53 => ?_)
            · exact absurd c_53 (by decide)
            · exact absurd hnc9 (by rw [hrc, c_37]; simp)
          · refine lv_aload_n hx hb dX8_areNodesConsistent_40 rfl (lv_at hl 2 rfl) ?_
            refine lv_iload_n hx hb dX8_areNodesConsistent_41 rfl (lv_at hl 1 rfl) ?_
            refine mm_rpu (va_runV (As := [.int (nI i)]) (rest := [.int (mm_b true)]) ⟨hx, hb, hml, hown, hts⟩ (t_isHeld l (s_nn S) hT hR hW (by omega) (by omega)) (cwV 1 hts (lw_V q3043 q3045 qs128 q164 q3046) rfl rfl rfl (by decide +kernel) ⟨by simp only [mm_rm]; omega, by simp only [mm_rm]; omega⟩) (mm_pV hKK (mm_rc hKK hT.2.1 mm_le.rf rfl)) rfl rfl hl.1 rfl (lv_room (Nat.le_of_ble_eq_true rfl)) dX8_areNodesConsistent_42 ⟨Nat.le_of_ble_eq_true rfl, Nat.le_of_ble_eq_true rfl⟩) hS (mm_s0 hS) (fun L_42 hS => ?_)
            refine mm_ifeqB (tgt := 52) hx hb dX8_areNodesConsistent_45 (by decide) (fun c_45 => ?_) (fun c_45 => ?_)
            · refine lv_iconst (v := nI 0) hx hb dX8_areNodesConsistent_52 (by decide) ?_
              refine mm_top (y := mm_b false) rfl ?_
              refine lv_icmp_eq (tgt := 58) hx hb dX8_areNodesConsistent_53 (by decide) (fun c_53 => ?_) (fun c_53 => ?_)
              · exact absurd c_53 (by decide)
              · exact absurd hnc9 (by rw [hrc, c_37, c_45]; simp)
            · refine lv_iconst (v := nI 1) hx hb dX8_areNodesConsistent_48 (by decide) ?_
              refine mm_top (y := mm_b true) rfl ?_
              refine lv_goto (tgt := 53) hx hb dX8_areNodesConsistent_49 (by decide) ?_
              refine lv_icmp_eq (tgt := 58) hx hb dX8_areNodesConsistent_53 (by decide) (fun c_53 => ?_) (fun c_53 => ?_)
              · refine lv_iinc (v := nI (i + 1)) (lv' := [(1, .int (nI (i + 1))), (2, .int (mm_b true)), (0, .ref x)]) hx hb dX8_areNodesConsistent_58 hl (k := 1) rfl (nI_add _ _) (by decide) rfl (fun ls hl => ?_)
                refine lv_goto (tgt := 6) hx hb dX8_areNodesConsistent_61 (by decide) ?_
                exact ih_6 (i + 1) _ _ (by omega) (by omega) (lv_sub hl [0, 2] rfl)  hS
              · exact absurd rfl c_53
  exact lp_6 _ 0 _ _ (Nat.lt_succ_self _) (by omega) (lv_sub hl [0, 1] rfl)  hS
set_option maxRecDepth 100000 in
theorem t_isConsistent (l : Launch) {G : mm_G} {P : mm_H} {H : Heap} {x : Nat} {ad : Nat → Nat} {I : Nat → Int32} {F : Nat → Nat → Int32} {S : sp_S} (hT : TW G x ad I F H) (hR : TR (F 0) S) (hW : WF S) (hRg : RG S) (hNC : NC S) (hCS : CS S) : Mt l yX8_isConsistent (ws_ yX8_isConsistent cX8_isConsistent 3 (some .boolean)) 215 13400 0 0 G P [.ref x] H (tw_M x ad) (mm_i (mm_b true) (fun H2 => ∃ I2 F2, TW G x ad I2 F2 H2 ∧ exI [25] (upd I 6 (nI 0)) I2 ∧ eqx [11, 24] F F2)) := by
  refine Mt.of (by decide) (Nat.le_of_ble_eq_true rfl) (fun p e s m below meth c ls hx hb hr hlk hml hown hnm hts hKK hsH hl hS => ?_)
  have hl : lv_has ls 3 [(0, .ref x)] := hl
  have hR0 := hR
  have hMx : mm_A (tw_M x ad) H x := Or.inl (Or.inl rfl)
  have hMa : ∀ j, tw_isA j = true → mm_A (tw_M x ad) H (ad j) := fun j hj => Or.inl (Or.inr ⟨j, hj, rfl⟩)
  have hnv := hW.nv
  have hnn := hW.nn
  refine lv_aload_n hx hb dX8_isConsistent_0 rfl (lv_at hl 0 rfl) ?_
  refine lv_iconst (v := nI 0) hx hb dX8_isConsistent_1 (by decide) ?_
  refine tw_put 6 hx hb hts hown hKK hT hS (hMx) (by decide) rfl (by decide) ⟨rfl, rfl⟩ (hts _ q2504) dX8_isConsistent_2 (fun H_2 L_2 hT hz_2 hq_2 hS => ?_)
  refine lv_iconst (v := nI 0) hx hb dX8_isConsistent_5 (by decide) ?_
  refine lv_istore_n (lv' := [(1, .int (nI 0)), (0, .ref x)]) hx hb dX8_isConsistent_6 rfl hl (by decide) rfl (fun ls hl => ?_)
  refine lv_iconst (v := nI 0) hx hb dX8_isConsistent_7 (by decide) ?_
  refine lv_istore_n (lv' := [(2, .int (nI 0)), (1, .int (nI 0)), (0, .ref x)]) hx hb dX8_isConsistent_8 rfl hl (by decide) rfl (fun ls hl => ?_)
  have lp_9 : ∀ (fu : Nat) (v : Nat) (H1 : Heap) (I1 : Nat → Int32) (F1 : Nat → Nat → Int32) (L : List Loc) (ls : Array Slot), s_nv S - v < fu → (v ≤ s_nv S) → lv_has ls 3 [(1, .int (nI (sumN v (s_cre S)))), (2, .int (nI v)), (0, .ref x)] → (TW G x ad I1 F1 H1) → (exI [25] (upd I 6 (nI 0)) I1) → (eqx [24] F F1) → va_S (mm_A (tw_M x ad) H) H H1 L → W p l e (mm_rm 215 13400 0 0) s m ([.ref x] : List Value).toArray below meth c H1 L 0 0 (MQ below (mm_Qc H (tw_M x ad) (mm_i (mm_b true) (fun H2 => ∃ I2 F2, TW G x ad I2 F2 H2 ∧ exI [25] (upd I 6 (nI 0)) I2 ∧ eqx [11, 24] F F2))) ([.ref x] : List Value).toArray s 0 0 (mm_A (tw_M x ad) H)) (F0 m 9 ls []) := by
    intro fu; induction fu with
    | zero => intro v H1 I1 F1 L ls hfu; exact absurd hfu (Nat.not_lt_zero _)
    | succ fu ih =>
      intro v H1 I1 F1 L ls hfu hv9 hl hT hxi he hS
      have ih_9 := ih
      have hR := TRx he (by decide) hR0
      refine lv_iload_n hx hb dX8_isConsistent_9 rfl (lv_at hl 1 rfl) ?_
      refine lv_aload_n hx hb dX8_isConsistent_10 rfl (lv_at hl 2 rfl) ?_
      refine tw_geta 0 hx hb hts hown hKK hT rfl rfl (hts _ q2498) dX8_isConsistent_11 ?_
      refine lv_iconst (v := nI 0) hx hb dX8_isConsistent_14 (by decide) ?_
      refine mm_iald (k := 0) hx hb hKK (hT.2.2 0 rfl) mm_le.rf (by show _ < 4210; omega) (by decide) dX8_isConsistent_15 ?_
      refine mm_top (y := nI (s_nv S)) (hR.nv) ?_
      refine mm_icmp_ge (tgt := 57) (by omega) (by omega) hx hb dX8_isConsistent_16 (by decide) (fun c_16 => ?_) (fun c_16 => ?_)
      · have hcs9 : sumN v (s_cre S) = s_nn S := by rw [show v = s_nv S by omega]; exact hCS
        refine lv_iload_n hx hb dX8_isConsistent_57 rfl (lv_at hl 0 rfl) ?_
        refine lv_aload_n hx hb dX8_isConsistent_58 rfl (lv_at hl 2 rfl) ?_
        refine tw_geta 0 hx hb hts hown hKK hT rfl rfl (hts _ q2498) dX8_isConsistent_59 ?_
        refine lv_iconst (v := nI 1) hx hb dX8_isConsistent_62 (by decide) ?_
        refine mm_iald (k := 1) hx hb hKK (hT.2.2 0 rfl) mm_le.rf (by show _ < 4210; omega) (by decide) dX8_isConsistent_63 ?_
        refine mm_top (y := nI (s_nn S)) (hR.nn) ?_
        refine mm_icmp_ne (tgt := 78) (by omega) (by omega) hx hb dX8_isConsistent_64 (by decide) (fun c_64 => ?_) (fun c_64 => ?_)
        · exfalso; omega
        · refine lv_aload_n hx hb dX8_isConsistent_67 rfl (lv_at hl 2 rfl) ?_
          refine mm_ri (va_runV (As := []) (rest := []) ⟨hx, hb, hml, hown, hts⟩ (t_areNodesConsistent l hT hR hW hRg.hg hNC) (cwV 0 hts (lw_V q3039 q3041 qs127 q164 q3042) rfl rfl rfl (by decide +kernel) ⟨Nat.le_of_ble_eq_true rfl, Nat.le_of_ble_eq_true rfl⟩) (mm_pV hKK (mm_rc hKK hT.2.1 mm_le.rf rfl)) rfl rfl hl.1 rfl (lv_room (Nat.le_of_ble_eq_true rfl)) dX8_isConsistent_68 ⟨Nat.le_of_ble_eq_true rfl, Nat.le_of_ble_eq_true rfl⟩) hS (mm_sS hS) (fun H_68 L_68 hB_68 hz_68 hq_68 hS => ?_)
          obtain ⟨F_68, hT, he_68⟩ := hB_68
          refine mm_ifeqB (tgt := 78) hx hb dX8_isConsistent_71 (by decide) (fun c_71 => ?_) (fun c_71 => ?_)
          · exact absurd c_71 (by decide)
          · refine lv_iconst (v := nI 1) hx hb dX8_isConsistent_74 (by decide) ?_
            refine mm_top (y := mm_b true) rfl ?_
            refine lv_goto (tgt := 79) hx hb dX8_isConsistent_75 (by decide) ?_
            exact mm_zret (v := mm_b true) hx hb hr hlk hS (Nat.le_of_ble_eq_true rfl) (Nat.le_of_ble_eq_true rfl) (mm_nb _) (⟨rfl, I1, F_68, hT, hxi, (he.mono (by decide)).tr (he_68.mono (by decide))⟩) dX8_isConsistent_79
      · refine lv_iload_n hx hb dX8_isConsistent_19 rfl (lv_at hl 0 rfl) ?_
        refine lv_aload_n hx hb dX8_isConsistent_20 rfl (lv_at hl 2 rfl) ?_
        refine tw_geta 0 hx hb hts hown hKK hT rfl rfl (hts _ q2498) dX8_isConsistent_21 ?_
        refine lv_iload_n hx hb dX8_isConsistent_24 rfl (lv_at hl 1 rfl) ?_
        refine mm_rpu (va_runS (As := [.int (nI v)]) (rest := [.ref (ad 0), .int (nI (sumN v (s_cre S)))]) ⟨hx, hb, hml, hown, hts⟩ (t_v l ) (va_cwS 1 hts (lw_S q2478 q2479 q164 q2480) rfl rfl rfl (by decide +kernel) ⟨Nat.le_of_ble_eq_true rfl, Nat.le_of_ble_eq_true rfl⟩) (mm_pS hKK) rfl rfl hl.1 rfl (lv_room (Nat.le_of_ble_eq_true rfl)) dX8_isConsistent_25 ⟨Nat.le_of_ble_eq_true rfl, Nat.le_of_ble_eq_true rfl⟩) hS (mm_s0 hS) (fun L_25 hS => ?_)
        refine lv_iconst (v := nI 5) hx hb dX8_isConsistent_28 (by decide) ?_
        refine mm_iadd hx hb dX8_isConsistent_29 ?_
        refine mm_iald (k := (10 + 6 * v + 5)) hx hb hKK (hT.2.2 0 rfl) mm_le.rf (by show _ < 4210; omega) (by decide) dX8_isConsistent_30 ?_
        refine mm_top (y := nI (s_cre S v)) (hR.cre (by omega)) ?_
        refine mm_iadd hx hb dX8_isConsistent_31 ?_
        refine mm_top (y := nI (sumN (v + 1) (s_cre S))) (rfl) ?_
        refine lv_istore_n (lv' := [(1, .int (nI (sumN (v + 1) (s_cre S)))), (2, .int (nI v)), (0, .ref x)]) hx hb dX8_isConsistent_32 rfl hl (by decide) rfl (fun ls hl => ?_)
        refine lv_aload_n hx hb dX8_isConsistent_33 rfl (lv_at hl 2 rfl) ?_
        refine lv_iload_n hx hb dX8_isConsistent_34 rfl (lv_at hl 1 rfl) ?_
        refine mm_rpu (va_runV (As := [.int (nI v)]) (rest := []) ⟨hx, hb, hml, hown, hts⟩ (t_isGone l hT hR hW (by first | assumption | omega)) (cwV 1 hts (lw_V q2717 q2719 qs82 q164 q2720) rfl rfl rfl (by decide +kernel) ⟨Nat.le_of_ble_eq_true rfl, Nat.le_of_ble_eq_true rfl⟩) (mm_pV hKK (mm_rc hKK hT.2.1 mm_le.rf rfl)) rfl rfl hl.1 rfl (lv_room (Nat.le_of_ble_eq_true rfl)) dX8_isConsistent_35 ⟨Nat.le_of_ble_eq_true rfl, Nat.le_of_ble_eq_true rfl⟩) hS (mm_s0 hS) (fun L_35 hS => ?_)
        refine mm_ifneB (tgt := 51) hx hb dX8_isConsistent_38 (by decide) (fun c_38 => ?_) (fun c_38 => ?_)
        · refine lv_iinc (v := nI (v + 1)) (lv' := [(2, .int (nI (v + 1))), (1, .int (nI (sumN (v + 1) (s_cre S)))), (0, .ref x)]) hx hb dX8_isConsistent_51 hl (k := 1) rfl (nI_add _ _) (by decide) rfl (fun ls hl => ?_)
          refine lv_goto (tgt := 9) hx hb dX8_isConsistent_54 (by decide) ?_
          exact ih_9 (v + 1) H1 I1 F1 _ _ (by omega) (by omega) (lv_sub hl [1, 0, 2] rfl) hT hxi he hS
        · refine lv_aload_n hx hb dX8_isConsistent_41 rfl (lv_at hl 2 rfl) ?_
          refine lv_iload_n hx hb dX8_isConsistent_42 rfl (lv_at hl 1 rfl) ?_
          refine mm_ri (va_runV (As := [.int (nI v)]) (rest := []) ⟨hx, hb, hml, hown, hts⟩ (t_isVersionConsistent l hT hR hW (v := v) (by omega) (hRg v (by omega) c_38)) (cwV 1 hts (lw_V q3031 q3033 qs125 q164 q3034) rfl rfl rfl (by decide +kernel) ⟨Nat.le_of_ble_eq_true rfl, Nat.le_of_ble_eq_true rfl⟩) (mm_pV hKK (mm_rc hKK hT.2.1 mm_le.rf rfl)) rfl rfl hl.1 rfl (lv_room (Nat.le_of_ble_eq_true rfl)) dX8_isConsistent_43 ⟨Nat.le_of_ble_eq_true rfl, Nat.le_of_ble_eq_true rfl⟩) hS (mm_sS hS) (fun H_43 L_43 hB_43 hz_43 hq_43 hS => ?_)
          obtain ⟨I_43, F_43, hT, hx_43, he_43⟩ := hB_43
          refine mm_ifneB (tgt := 51) hx hb dX8_isConsistent_46 (by decide) (fun c_46 => ?_) (fun c_46 => ?_)
          · refine lv_iinc (v := nI (v + 1)) (lv' := [(2, .int (nI (v + 1))), (1, .int (nI (sumN (v + 1) (s_cre S)))), (0, .ref x)]) hx hb dX8_isConsistent_51 hl (k := 1) rfl (nI_add _ _) (by decide) rfl (fun ls hl => ?_)
            refine lv_goto (tgt := 9) hx hb dX8_isConsistent_54 (by decide) ?_
            exact ih_9 (v + 1) H_43 I_43 F_43 _ _ (by omega) (by omega) (lv_sub hl [1, 0, 2] rfl) hT (hxi.tr hx_43) (he.tr he_43) hS
          · exact absurd c_46 (by decide)
  exact lp_9 _ 0 H_2 ((upd I 6 (nI 0))) F _ _ (Nat.lt_succ_self _) (by omega) (lv_sub hl [1, 0, 2] rfl) hT exI.rf eqx.rf hS
