/-! the twin: changes (printed by tools/tw14.py) -/
set_option maxRecDepth 100000 in
theorem t_remember (l : Launch) {G : mm_G} {P : mm_H} {H : Heap} {x : Nat} {ad : Nat → Nat} {I : Nat → Int32} {F : Nat → Nat → Int32} {k : Nat} (hT : TW G x ad I F H) (hk4 : I 4 = nI k) (hk8 : k ≤ 8) : Mt l yX8_remember (ws_ yX8_remember cX8_remember 2 none) 3 60 0 0 G P [.ref x] H (tw_M x ad) (mm_v (fun H2 => ∃ I2 F2, TW G x ad I2 F2 H2 ∧ (exI [4] I I2 ∧ I2 4 = nI (min k 7 + 1)) ∧ eqx [3] F F2 ∧ (∀ j, j < 4210 → F2 3 (4210 * min k 7 + j) = F 0 j) ∧ (∀ j, j < 4210 * min k 7 → F2 3 j = F 3 (j + (if k = 8 then 4210 else 0))))) := by
  refine Mt.of (by decide) (Nat.le_of_ble_eq_true rfl) (fun p e s m below meth c ls hx hb hr hlk hml hown hnm hts hKK hsH hl hS => ?_)
  have hl : lv_has ls 2 [(0, .ref x)] := hl
  have hMx : mm_A (tw_M x ad) H x := Or.inl (Or.inl rfl)
  have hMa : ∀ j, tw_isA j = true → mm_A (tw_M x ad) H (ad j) := fun j hj => Or.inl (Or.inr ⟨j, hj, rfl⟩)
  refine lv_aload_n hx hb dX8_remember_0 rfl (lv_at hl 0 rfl) ?_
  refine tw_geti 4 (v := nI k) hx hb hts hown hKK hT (by decide) rfl (hk4) (hts _ q2502) dX8_remember_1 ?_
  refine lv_bipush (v := nI 8) hx hb dX8_remember_4 (by decide) ?_
  refine mm_icmp_ne (tgt := 51) (by omega) (by omega) hx hb dX8_remember_6 (by decide) (fun c_6 => ?_) (fun c_6 => ?_)
  · refine lv_iconst (v := nI 0) hx hb dX8_remember_51 (by decide) ?_
    refine lv_istore_n (lv' := [(1, .int (nI 0)), (0, .ref x)]) hx hb dX8_remember_52 rfl hl (by decide) rfl (fun ls hl => ?_)
    have lp_53 : ∀ (fu : Nat) (i : Nat) (H3 : Heap) (F3 : Nat → Nat → Int32) (L : List Loc) (ls : Array Slot), 4210 - i < fu → (i ≤ 4210) → lv_has ls 2 [(1, .int (nI i)), (0, .ref x)] → (TW G x ad I F3 H3) → (eqx [3] F F3) → (∀ j, j < i → F3 3 (4210 * k + j) = F 0 j) → (∀ j, j < 4210 * k → F3 3 j = F 3 j) → va_S (mm_A (tw_M x ad) H) H H3 L → W p l e (mm_rm 3 60 0 0) s m ([.ref x] : List Value).toArray below meth c H3 L 0 0 (MQ below (mm_Qc H (tw_M x ad) (mm_v (fun H2 => ∃ I2 F2, TW G x ad I2 F2 H2 ∧ (exI [4] I I2 ∧ I2 4 = nI (min k 7 + 1)) ∧ eqx [3] F F2 ∧ (∀ j, j < 4210 → F2 3 (4210 * min k 7 + j) = F 0 j) ∧ (∀ j, j < 4210 * min k 7 → F2 3 j = F 3 (j + (if k = 8 then 4210 else 0)))))) ([.ref x] : List Value).toArray s 0 0 (mm_A (tw_M x ad) H)) (F0 m 53 ls []) := by
      intro fu; induction fu with
      | zero => intro i H3 F3 L ls hfu; exact absurd hfu (Nat.not_lt_zero _)
      | succ fu ih =>
        intro i H3 F3 L ls hfu hi hl hT he3 h3c h3d hS
        have ih_53 := ih
        refine lv_iload_n hx hb dX8_remember_53 rfl (lv_at hl 0 rfl) ?_
        refine lv_sipush (v := nI 4210) hx hb dX8_remember_54 (by decide) ?_
        refine mm_icmp_ge (tgt := 87) (by omega) (by omega) hx hb dX8_remember_57 (by decide) (fun c_57 => ?_) (fun c_57 => ?_)
        · refine lv_aload_n hx hb dX8_remember_87 rfl (lv_at hl 1 rfl) ?_
          refine lv_dup hx hb dX8_remember_88 rfl ?_
          refine tw_geti 4 (v := nI k) hx hb hts hown hKK hT (by decide) rfl (hk4) (hts _ q2502) dX8_remember_89 ?_
          refine lv_iconst (v := nI 1) hx hb dX8_remember_92 (by decide) ?_
          refine mm_iadd hx hb dX8_remember_93 ?_
          refine tw_put 4 hx hb hts hown hKK hT hS (hMx) (by decide) rfl (by decide) ⟨rfl, rfl⟩ (hts _ q2502) dX8_remember_94 (fun H_94 L_94 hT hz_94 hq_94 hS => ?_)
          exact mm_vret hx hb hr hlk hS (Nat.le_of_ble_eq_true rfl) (Nat.le_of_ble_eq_true rfl) (⟨rfl, _, F3, hT, ⟨exI.u (by decide), by rw [tw_up, show min k 7 = k by omega]⟩, he3, fun j hj => by rw [show min k 7 = k by omega]; exact h3c j (by omega), fun j hj => by rw [if_neg c_6, h3d j (by omega)]; rfl⟩) dX8_remember_97
        · refine lv_aload_n hx hb dX8_remember_60 rfl (lv_at hl 1 rfl) ?_
          refine tw_geta 3 hx hb hts hown hKK hT rfl rfl (hts _ q2501) dX8_remember_61 ?_
          refine lv_sipush (v := nI 4210) hx hb dX8_remember_64 (by decide) ?_
          refine lv_aload_n hx hb dX8_remember_67 rfl (lv_at hl 1 rfl) ?_
          refine tw_geti 4 (v := nI k) hx hb hts hown hKK hT (by decide) rfl (hk4) (hts _ q2502) dX8_remember_68 ?_
          refine mm_imul hx hb dX8_remember_71 ?_
          refine lv_iload_n hx hb dX8_remember_72 rfl (lv_at hl 0 rfl) ?_
          refine mm_iadd hx hb dX8_remember_73 ?_
          refine lv_aload_n hx hb dX8_remember_74 rfl (lv_at hl 1 rfl) ?_
          refine tw_geta 0 hx hb hts hown hKK hT rfl rfl (hts _ q2498) dX8_remember_75 ?_
          refine lv_iload_n hx hb dX8_remember_78 rfl (lv_at hl 0 rfl) ?_
          refine mm_iald (k := i) hx hb hKK (hT.2.2 0 rfl) mm_le.rf (by show _ < 4210; omega) (by decide) dX8_remember_79 ?_
          refine tw_st 3 (k := (4210 * k + i)) hx hb hKK hT hS hMa rfl rfl (by show _ < 33680; omega) dX8_remember_80 (fun H_80 L_80 hT hz_80 hq_80 hS => ?_)
          refine lv_iinc (v := nI (i + 1)) (lv' := [(1, .int (nI (i + 1))), (0, .ref x)]) hx hb dX8_remember_81 hl (k := 0) rfl (nI_add _ _) (by decide) rfl (fun ls hl => ?_)
          refine lv_goto (tgt := 53) hx hb dX8_remember_84 (by decide) ?_
          exact ih_53 (i + 1) H_80 ((tw_u F3 3 (4210 * k + i) (F3 0 i))) _ _ (by omega) (by omega) (lv_sub hl [0, 1] rfl) hT (he3.tr (eqx.u (by decide))) (fun j hj => by rw [tw_us]; by_cases z : j = i; rw [z]; exact pk_us.trans (by rw [he3 0 (by decide)]); rw [pk_un (by omega)]; exact h3c j (by omega)) (fun j hj => by rw [tw_us, pk_un (by omega)]; exact h3d j hj) hS
    exact lp_53 _ 0 H F _ _ (Nat.lt_succ_self _) (by omega) (lv_sub hl [0, 1] rfl) hT eqx.rf (fun j hj => absurd hj (Nat.not_lt_zero _)) (fun j _ => rfl) hS
  · refine lv_sipush (v := nI 4210) hx hb dX8_remember_9 (by decide) ?_
    refine lv_istore_n (lv' := [(1, .int (nI 4210)), (0, .ref x)]) hx hb dX8_remember_12 rfl hl (by decide) rfl (fun ls hl => ?_)
    have lp_13 : ∀ (fu : Nat) (i : Nat) (H1 : Heap) (F1 : Nat → Nat → Int32) (L : List Loc) (ls : Array Slot), 33680 - i < fu → (4210 ≤ i ∧ i ≤ 33680) → lv_has ls 2 [(1, .int (nI i)), (0, .ref x)] → (TW G x ad I F1 H1) → (eqx [3] F F1) → (∀ j, j + 4210 < i → F1 3 j = F 3 (j + 4210)) → (∀ j, i ≤ j + 4210 → F1 3 j = F 3 j) → va_S (mm_A (tw_M x ad) H) H H1 L → W p l e (mm_rm 3 60 0 0) s m ([.ref x] : List Value).toArray below meth c H1 L 0 0 (MQ below (mm_Qc H (tw_M x ad) (mm_v (fun H2 => ∃ I2 F2, TW G x ad I2 F2 H2 ∧ (exI [4] I I2 ∧ I2 4 = nI (min k 7 + 1)) ∧ eqx [3] F F2 ∧ (∀ j, j < 4210 → F2 3 (4210 * min k 7 + j) = F 0 j) ∧ (∀ j, j < 4210 * min k 7 → F2 3 j = F 3 (j + (if k = 8 then 4210 else 0)))))) ([.ref x] : List Value).toArray s 0 0 (mm_A (tw_M x ad) H)) (F0 m 13 ls []) := by
      intro fu; induction fu with
      | zero => intro i H1 F1 L ls hfu; exact absurd hfu (Nat.not_lt_zero _)
      | succ fu ih =>
        intro i H1 F1 L ls hfu hi hl hT he h3a h3b hS
        have ih_13 := ih
        refine lv_iload_n hx hb dX8_remember_13 rfl (lv_at hl 0 rfl) ?_
        refine lv_ldc (v := 33680) hx hb hown (hts _ q2446) dX8_remember_14 ?_
        refine mm_top (y := nI 33680) rfl ?_
        refine mm_icmp_ge (tgt := 41) (by omega) (by omega) hx hb dX8_remember_16 (by decide) (fun c_16 => ?_) (fun c_16 => ?_)
        · refine lv_aload_n hx hb dX8_remember_41 rfl (lv_at hl 1 rfl) ?_
          refine lv_dup hx hb dX8_remember_42 rfl ?_
          refine tw_geti 4 (v := nI k) hx hb hts hown hKK hT (by decide) rfl (hk4) (hts _ q2502) dX8_remember_43 ?_
          refine lv_iconst (v := nI 1) hx hb dX8_remember_46 (by decide) ?_
          refine mm_isub (by omega) hx hb dX8_remember_47 ?_
          refine tw_put 4 hx hb hts hown hKK hT hS (hMx) (by decide) rfl (by decide) ⟨rfl, rfl⟩ (hts _ q2502) dX8_remember_48 (fun H_48 L_48 hT hz_48 hq_48 hS => ?_)
          refine lv_iconst (v := nI 0) hx hb dX8_remember_51 (by decide) ?_
          refine lv_istore_n (lv' := [(1, .int (nI 0)), (0, .ref x)]) hx hb dX8_remember_52 rfl hl (by decide) rfl (fun ls hl => ?_)
          have lp_53 : ∀ (fu : Nat) (i : Nat) (H3 : Heap) (F3 : Nat → Nat → Int32) (L : List Loc) (ls : Array Slot), 4210 - i < fu → (i ≤ 4210) → lv_has ls 2 [(1, .int (nI i)), (0, .ref x)] → (TW G x ad (upd I 4 (nI (k - 1))) F3 H3) → (eqx [3] F1 F3) → (∀ j, j < i → F3 3 (4210 * (k - 1) + j) = F 0 j) → (∀ j, j < 4210 * (k - 1) → F3 3 j = F1 3 j) → va_S (mm_A (tw_M x ad) H) H H3 L → W p l e (mm_rm 3 60 0 0) s m ([.ref x] : List Value).toArray below meth c H3 L 0 0 (MQ below (mm_Qc H (tw_M x ad) (mm_v (fun H2 => ∃ I2 F2, TW G x ad I2 F2 H2 ∧ (exI [4] I I2 ∧ I2 4 = nI (min k 7 + 1)) ∧ eqx [3] F F2 ∧ (∀ j, j < 4210 → F2 3 (4210 * min k 7 + j) = F 0 j) ∧ (∀ j, j < 4210 * min k 7 → F2 3 j = F 3 (j + (if k = 8 then 4210 else 0)))))) ([.ref x] : List Value).toArray s 0 0 (mm_A (tw_M x ad) H)) (F0 m 53 ls []) := by
            intro fu; induction fu with
            | zero => intro i H3 F3 L ls hfu; exact absurd hfu (Nat.not_lt_zero _)
            | succ fu ih =>
              intro i H3 F3 L ls hfu hi hl hT he3 h3c h3d hS
              have ih_53 := ih
              refine lv_iload_n hx hb dX8_remember_53 rfl (lv_at hl 0 rfl) ?_
              refine lv_sipush (v := nI 4210) hx hb dX8_remember_54 (by decide) ?_
              refine mm_icmp_ge (tgt := 87) (by omega) (by omega) hx hb dX8_remember_57 (by decide) (fun c_57 => ?_) (fun c_57 => ?_)
              · refine lv_aload_n hx hb dX8_remember_87 rfl (lv_at hl 1 rfl) ?_
                refine lv_dup hx hb dX8_remember_88 rfl ?_
                refine tw_geti 4 (v := nI (k - 1)) hx hb hts hown hKK hT (by decide) rfl (tw_up _ _ _) (hts _ q2502) dX8_remember_89 ?_
                refine lv_iconst (v := nI 1) hx hb dX8_remember_92 (by decide) ?_
                refine mm_iadd hx hb dX8_remember_93 ?_
                refine tw_put 4 hx hb hts hown hKK hT hS (hMx) (by decide) rfl (by decide) ⟨rfl, rfl⟩ (hts _ q2502) dX8_remember_94 (fun H_94 L_94 hT hz_94 hq_94 hS => ?_)
                exact mm_vret hx hb hr hlk hS (Nat.le_of_ble_eq_true rfl) (Nat.le_of_ble_eq_true rfl) (⟨rfl, _, F3, hT, ⟨(exI.u (by decide)).tr (exI.u (by decide)), by rw [tw_up, c_6]; rfl⟩, he.tr he3, fun j hj => by rw [show min k 7 = k - 1 by omega]; exact h3c j (by omega), fun j hj => by rw [if_pos c_6, h3d j (by omega)]; exact h3a j (by omega)⟩) dX8_remember_97
              · refine lv_aload_n hx hb dX8_remember_60 rfl (lv_at hl 1 rfl) ?_
                refine tw_geta 3 hx hb hts hown hKK hT rfl rfl (hts _ q2501) dX8_remember_61 ?_
                refine lv_sipush (v := nI 4210) hx hb dX8_remember_64 (by decide) ?_
                refine lv_aload_n hx hb dX8_remember_67 rfl (lv_at hl 1 rfl) ?_
                refine tw_geti 4 (v := nI (k - 1)) hx hb hts hown hKK hT (by decide) rfl (tw_up _ _ _) (hts _ q2502) dX8_remember_68 ?_
                refine mm_imul hx hb dX8_remember_71 ?_
                refine lv_iload_n hx hb dX8_remember_72 rfl (lv_at hl 0 rfl) ?_
                refine mm_iadd hx hb dX8_remember_73 ?_
                refine lv_aload_n hx hb dX8_remember_74 rfl (lv_at hl 1 rfl) ?_
                refine tw_geta 0 hx hb hts hown hKK hT rfl rfl (hts _ q2498) dX8_remember_75 ?_
                refine lv_iload_n hx hb dX8_remember_78 rfl (lv_at hl 0 rfl) ?_
                refine mm_iald (k := i) hx hb hKK (hT.2.2 0 rfl) mm_le.rf (by show _ < 4210; omega) (by decide) dX8_remember_79 ?_
                refine tw_st 3 (k := (4210 * (k - 1) + i)) hx hb hKK hT hS hMa rfl rfl (by show _ < 33680; omega) dX8_remember_80 (fun H_80 L_80 hT hz_80 hq_80 hS => ?_)
                refine lv_iinc (v := nI (i + 1)) (lv' := [(1, .int (nI (i + 1))), (0, .ref x)]) hx hb dX8_remember_81 hl (k := 0) rfl (nI_add _ _) (by decide) rfl (fun ls hl => ?_)
                refine lv_goto (tgt := 53) hx hb dX8_remember_84 (by decide) ?_
                exact ih_53 (i + 1) H_80 ((tw_u F3 3 (4210 * (k - 1) + i) (F3 0 i))) _ _ (by omega) (by omega) (lv_sub hl [0, 1] rfl) hT (he3.tr (eqx.u (by decide))) (fun j hj => by rw [tw_us]; by_cases z : j = i; rw [z]; exact pk_us.trans (by rw [he3 0 (by decide), he 0 (by decide)]); rw [pk_un (by omega)]; exact h3c j (by omega)) (fun j hj => by rw [tw_us, pk_un (by omega)]; exact h3d j hj) hS
          exact lp_53 _ 0 H_48 F1 _ _ (Nat.lt_succ_self _) (by omega) (lv_sub hl [0, 1] rfl) hT eqx.rf (fun j hj => absurd hj (Nat.not_lt_zero _)) (fun j _ => rfl) hS
        · refine lv_aload_n hx hb dX8_remember_19 rfl (lv_at hl 1 rfl) ?_
          refine tw_geta 3 hx hb hts hown hKK hT rfl rfl (hts _ q2501) dX8_remember_20 ?_
          refine lv_iload_n hx hb dX8_remember_23 rfl (lv_at hl 0 rfl) ?_
          refine lv_sipush (v := nI 4210) hx hb dX8_remember_24 (by decide) ?_
          refine mm_isub (by omega) hx hb dX8_remember_27 ?_
          refine lv_aload_n hx hb dX8_remember_28 rfl (lv_at hl 1 rfl) ?_
          refine tw_geta 3 hx hb hts hown hKK hT rfl rfl (hts _ q2501) dX8_remember_29 ?_
          refine lv_iload_n hx hb dX8_remember_32 rfl (lv_at hl 0 rfl) ?_
          refine mm_iald (k := i) hx hb hKK (hT.2.2 3 rfl) mm_le.rf (by show _ < 33680; omega) (by decide) dX8_remember_33 ?_
          refine tw_st 3 (k := (i - 4210)) hx hb hKK hT hS hMa rfl rfl (by show _ < 33680; omega) dX8_remember_34 (fun H_34 L_34 hT hz_34 hq_34 hS => ?_)
          refine lv_iinc (v := nI (i + 1)) (lv' := [(1, .int (nI (i + 1))), (0, .ref x)]) hx hb dX8_remember_35 hl (k := 0) rfl (nI_add _ _) (by decide) rfl (fun ls hl => ?_)
          refine lv_goto (tgt := 13) hx hb dX8_remember_38 (by decide) ?_
          exact ih_13 (i + 1) H_34 ((tw_u F1 3 (i - 4210) (F1 3 i))) _ _ (by omega) (by omega) (lv_sub hl [0, 1] rfl) hT (he.tr (eqx.u (by decide))) (fun j hj => by rw [tw_us]; by_cases z : j = i - 4210; rw [z, show i - 4210 + 4210 = i by omega]; exact pk_us.trans (h3b i (by omega)); rw [pk_un z]; exact h3a j (by omega)) (fun j hj => by rw [tw_us, pk_un (by omega)]; exact h3b j (by omega)) hS
    exact lp_13 _ 4210 H F _ _ (Nat.lt_succ_self _) (by omega) (lv_sub hl [0, 1] rfl) hT eqx.rf (fun j hj => absurd hj (by omega)) (fun j _ => rfl) hS
set_option maxRecDepth 100000 in
theorem t_copyTo (l : Launch) {G : mm_G} {P : mm_H} {H : Heap} {x : Nat} {ad : Nat → Nat} {I : Nat → Int32} {F : Nat → Nat → Int32} (hT : TW G x ad I F H) : Mt l yX8_copyTo (ws_ yX8_copyTo cX8_copyTo 3 none) 3 60 0 0 G P [.ref x, .ref (ad 2)] H (tw_M x ad) (mm_v (fun H2 => ∃ F2, TW G x ad I F2 H2 ∧ eqx [2] F F2 ∧ ∀ j, j < 4210 → F2 2 j = F 0 j)) := by
  refine Mt.of (by decide) (Nat.le_of_ble_eq_true rfl) (fun p e s m below meth c ls hx hb hr hlk hml hown hnm hts hKK hsH hl hS => ?_)
  have hl : lv_has ls 3 [(0, .ref x), (1, .ref (ad 2))] := hl
  have hMx : mm_A (tw_M x ad) H x := Or.inl (Or.inl rfl)
  have hMa : ∀ j, tw_isA j = true → mm_A (tw_M x ad) H (ad j) := fun j hj => Or.inl (Or.inr ⟨j, hj, rfl⟩)
  refine lv_iconst (v := nI 0) hx hb dX8_copyTo_0 (by decide) ?_
  refine lv_istore_n (lv' := [(2, .int (nI 0)), (0, .ref x), (1, .ref (ad 2))]) hx hb dX8_copyTo_1 rfl hl (by decide) rfl (fun ls hl => ?_)
  have lp_2 : ∀ (fu : Nat) (i : Nat) (H1 : Heap) (F1 : Nat → Nat → Int32) (L : List Loc) (ls : Array Slot), 4210 - i < fu → (i ≤ 4210) → lv_has ls 3 [(2, .int (nI i)), (0, .ref x), (1, .ref (ad 2))] → (TW G x ad I F1 H1) → (eqx [2] F F1) → (∀ j, j < i → F1 2 j = F 0 j) → va_S (mm_A (tw_M x ad) H) H H1 L → W p l e (mm_rm 3 60 0 0) s m ([.ref x, .ref (ad 2)] : List Value).toArray below meth c H1 L 0 0 (MQ below (mm_Qc H (tw_M x ad) (mm_v (fun H2 => ∃ F2, TW G x ad I F2 H2 ∧ eqx [2] F F2 ∧ ∀ j, j < 4210 → F2 2 j = F 0 j))) ([.ref x, .ref (ad 2)] : List Value).toArray s 0 0 (mm_A (tw_M x ad) H)) (F0 m 2 ls []) := by
    intro fu; induction fu with
    | zero => intro i H1 F1 L ls hfu; exact absurd hfu (Nat.not_lt_zero _)
    | succ fu ih =>
      intro i H1 F1 L ls hfu hi hl hT he h0 hS
      have ih_2 := ih
      refine lv_iload_n hx hb dX8_copyTo_2 rfl (lv_at hl 0 rfl) ?_
      refine lv_sipush (v := nI 4210) hx hb dX8_copyTo_3 (by decide) ?_
      refine mm_icmp_ge (tgt := 24) (by omega) (by omega) hx hb dX8_copyTo_6 (by decide) (fun c_6 => ?_) (fun c_6 => ?_)
      · exact mm_vret hx hb hr hlk hS (Nat.le_of_ble_eq_true rfl) (Nat.le_of_ble_eq_true rfl) (⟨rfl, F1, hT, he, fun j hj => h0 j (by omega)⟩) dX8_copyTo_24
      · refine lv_aload_n hx hb dX8_copyTo_9 rfl (lv_at hl 2 rfl) ?_
        refine lv_iload_n hx hb dX8_copyTo_10 rfl (lv_at hl 0 rfl) ?_
        refine lv_aload_n hx hb dX8_copyTo_11 rfl (lv_at hl 1 rfl) ?_
        refine tw_geta 0 hx hb hts hown hKK hT rfl rfl (hts _ q2498) dX8_copyTo_12 ?_
        refine lv_iload_n hx hb dX8_copyTo_15 rfl (lv_at hl 0 rfl) ?_
        refine mm_iald (k := i) hx hb hKK (hT.2.2 0 rfl) mm_le.rf (by show _ < 4210; omega) (by decide) dX8_copyTo_16 ?_
        refine tw_st 2 (k := i) hx hb hKK hT hS hMa rfl rfl (by show _ < 4210; omega) dX8_copyTo_17 (fun H_17 L_17 hT hz_17 hq_17 hS => ?_)
        refine lv_iinc (v := nI (i + 1)) (lv' := [(2, .int (nI (i + 1))), (0, .ref x), (1, .ref (ad 2))]) hx hb dX8_copyTo_18 hl (k := 0) rfl (nI_add _ _) (by decide) rfl (fun ls hl => ?_)
        refine lv_goto (tgt := 2) hx hb dX8_copyTo_21 (by decide) ?_
        exact ih_2 (i + 1) H_17 ((tw_u F1 2 i (F1 0 i))) _ _ (by omega) (by omega) (lv_sub hl [0, 1, 2] rfl) hT (he.tr (eqx.u (by decide))) (fun j hj => by rw [tw_us]; by_cases z : j = i; rw [z]; exact pk_us.trans (by rw [he 0 (by decide)]); rw [pk_un z]; exact h0 j (by omega)) hS
  exact lp_2 _ 0 H F _ _ (Nat.lt_succ_self _) (by omega) (lv_sub hl [0, 1, 2] rfl) hT eqx.rf (fun j hj => absurd hj (Nat.not_lt_zero _)) hS
set_option maxRecDepth 100000 in
theorem t_copyFrom (l : Launch) {G : mm_G} {P : mm_H} {H : Heap} {x : Nat} {ad : Nat → Nat} {I : Nat → Int32} {F : Nat → Nat → Int32} (hT : TW G x ad I F H) : Mt l yX8_copyFrom (ws_ yX8_copyFrom cX8_copyFrom 3 none) 3 60 0 0 G P [.ref x, .ref (ad 2)] H (tw_M x ad) (mm_v (fun H2 => ∃ F2, TW G x ad I F2 H2 ∧ eqx [0] F F2 ∧ ∀ j, j < 4210 → F2 0 j = F 2 j)) := by
  refine Mt.of (by decide) (Nat.le_of_ble_eq_true rfl) (fun p e s m below meth c ls hx hb hr hlk hml hown hnm hts hKK hsH hl hS => ?_)
  have hl : lv_has ls 3 [(0, .ref x), (1, .ref (ad 2))] := hl
  have hMx : mm_A (tw_M x ad) H x := Or.inl (Or.inl rfl)
  have hMa : ∀ j, tw_isA j = true → mm_A (tw_M x ad) H (ad j) := fun j hj => Or.inl (Or.inr ⟨j, hj, rfl⟩)
  refine lv_iconst (v := nI 0) hx hb dX8_copyFrom_0 (by decide) ?_
  refine lv_istore_n (lv' := [(2, .int (nI 0)), (0, .ref x), (1, .ref (ad 2))]) hx hb dX8_copyFrom_1 rfl hl (by decide) rfl (fun ls hl => ?_)
  have lp_2 : ∀ (fu : Nat) (i : Nat) (H1 : Heap) (F1 : Nat → Nat → Int32) (L : List Loc) (ls : Array Slot), 4210 - i < fu → (i ≤ 4210) → lv_has ls 3 [(2, .int (nI i)), (0, .ref x), (1, .ref (ad 2))] → (TW G x ad I F1 H1) → (eqx [0] F F1) → (∀ j, j < i → F1 0 j = F 2 j) → va_S (mm_A (tw_M x ad) H) H H1 L → W p l e (mm_rm 3 60 0 0) s m ([.ref x, .ref (ad 2)] : List Value).toArray below meth c H1 L 0 0 (MQ below (mm_Qc H (tw_M x ad) (mm_v (fun H2 => ∃ F2, TW G x ad I F2 H2 ∧ eqx [0] F F2 ∧ ∀ j, j < 4210 → F2 0 j = F 2 j))) ([.ref x, .ref (ad 2)] : List Value).toArray s 0 0 (mm_A (tw_M x ad) H)) (F0 m 2 ls []) := by
    intro fu; induction fu with
    | zero => intro i H1 F1 L ls hfu; exact absurd hfu (Nat.not_lt_zero _)
    | succ fu ih =>
      intro i H1 F1 L ls hfu hi hl hT he h0 hS
      have ih_2 := ih
      refine lv_iload_n hx hb dX8_copyFrom_2 rfl (lv_at hl 0 rfl) ?_
      refine lv_sipush (v := nI 4210) hx hb dX8_copyFrom_3 (by decide) ?_
      refine mm_icmp_ge (tgt := 24) (by omega) (by omega) hx hb dX8_copyFrom_6 (by decide) (fun c_6 => ?_) (fun c_6 => ?_)
      · exact mm_vret hx hb hr hlk hS (Nat.le_of_ble_eq_true rfl) (Nat.le_of_ble_eq_true rfl) (⟨rfl, F1, hT, he, fun j hj => h0 j (by omega)⟩) dX8_copyFrom_24
      · refine lv_aload_n hx hb dX8_copyFrom_9 rfl (lv_at hl 1 rfl) ?_
        refine tw_geta 0 hx hb hts hown hKK hT rfl rfl (hts _ q2498) dX8_copyFrom_10 ?_
        refine lv_iload_n hx hb dX8_copyFrom_13 rfl (lv_at hl 0 rfl) ?_
        refine lv_aload_n hx hb dX8_copyFrom_14 rfl (lv_at hl 2 rfl) ?_
        refine lv_iload_n hx hb dX8_copyFrom_15 rfl (lv_at hl 0 rfl) ?_
        refine mm_iald (k := i) hx hb hKK (hT.2.2 2 rfl) mm_le.rf (by show _ < 4210; omega) (by decide) dX8_copyFrom_16 ?_
        refine tw_st 0 (k := i) hx hb hKK hT hS hMa rfl rfl (by show _ < 4210; omega) dX8_copyFrom_17 (fun H_17 L_17 hT hz_17 hq_17 hS => ?_)
        refine lv_iinc (v := nI (i + 1)) (lv' := [(2, .int (nI (i + 1))), (0, .ref x), (1, .ref (ad 2))]) hx hb dX8_copyFrom_18 hl (k := 0) rfl (nI_add _ _) (by decide) rfl (fun ls hl => ?_)
        refine lv_goto (tgt := 2) hx hb dX8_copyFrom_21 (by decide) ?_
        exact ih_2 (i + 1) H_17 ((tw_u F1 0 i (F1 2 i))) _ _ (by omega) (by omega) (lv_sub hl [0, 1, 2] rfl) hT (he.tr (eqx.u (by decide))) (fun j hj => by rw [tw_us]; by_cases z : j = i; rw [z]; exact pk_us.trans (by rw [he 2 (by decide)]); rw [pk_un z]; exact h0 j (by omega)) hS
  exact lp_2 _ 0 H F _ _ (Nat.lt_succ_self _) (by omega) (lv_sub hl [0, 1, 2] rfl) hT eqx.rf (fun j hj => absurd hj (Nat.not_lt_zero _)) hS
set_option maxRecDepth 100000 in
theorem tm_release (l : Launch) {G : mm_G} {P : mm_H} {H : Heap} {x : Nat} {ad : Nat → Nat} {I : Nat → Int32} {F : Nat → Nat → Int32} {S : sp_S} {k : Nat} {a : Int32} (hT : TW G x ad I F H) (hR : TR (F 0) S) (hW : WF S) (hk4 : I 4 = nI k) (hk8 : k ≤ 8) (hG : HG S) : Mt l yX8_release (ws_ yX8_release cX8_release 2 (some .int)) 12 600 0 0 G P [.ref x, .int a] H (tw_M x ad) (mm_i (qv (isLv S a) (nI (s_garb (setR S a.toNatClampNeg)))) (fun H2 => ∃ I2 F2, TW G x ad I2 F2 H2 ∧ (if (isLv S a) = true then ((exI [4] (upd I 6 (ck (inR a (s_nv S)) (isLv S a) true)) I2 ∧ I2 4 = nI (min k 7 + 1)) ∧ (∀ j, j < 4210 → F2 3 (4210 * min k 7 + j) = F 0 j) ∧ (∀ j, j < 4210 * min k 7 → F2 3 j = F 3 (j + (if k = 8 then 4210 else 0)))) ∧ eqx [0, 3, 11] F F2 ∧ TR (F2 0) (setR S a.toNatClampNeg) else I2 = upd I 6 (ck (inR a (s_nv S)) (isLv S a) true) ∧ F2 = F))) := by
  refine Mt.of (by decide) (Nat.le_of_ble_eq_true rfl) (fun p e s m below meth c ls hx hb hr hlk hml hown hnm hts hKK hsH hl hS => ?_)
  have hl : lv_has ls 2 [(0, .ref x), (1, .int a)] := hl
  have hR0 := hR
  have hMx : mm_A (tw_M x ad) H x := Or.inl (Or.inl rfl)
  have hMa : ∀ j, tw_isA j = true → mm_A (tw_M x ad) H (ad j) := fun j hj => Or.inl (Or.inr ⟨j, hj, rfl⟩)
  have hnv := hW.nv
  have hnn := hW.nn
  refine lv_aload_n hx hb dX8_release_0 rfl (lv_at hl 0 rfl) ?_
  refine lv_iload_n hx hb dX8_release_1 rfl (lv_at hl 1 rfl) ?_
  refine mm_ri (va_runV (As := [.int a]) (rest := []) ⟨hx, hb, hml, hown, hts⟩ (t_checkLive l hT hR hW) (cwV 1 hts (lw_V q2869 q2871 qs112 q164 q2872) rfl rfl rfl (by decide +kernel) ⟨Nat.le_of_ble_eq_true rfl, Nat.le_of_ble_eq_true rfl⟩) (mm_pV hKK (mm_rc hKK hT.2.1 mm_le.rf rfl)) rfl rfl hl.1 rfl (lv_room (Nat.le_of_ble_eq_true rfl)) dX8_release_2 ⟨Nat.le_of_ble_eq_true rfl, Nat.le_of_ble_eq_true rfl⟩) hS (mm_sS hS) (fun H_2 L_2 hT hz_2 hq_2 hS => ?_)
  refine mm_ifneB (tgt := 10) hx hb dX8_release_5 (by decide) (fun c_5 => ?_) (fun c_5 => ?_)
  · obtain ⟨hina, hrla⟩ := isLv_in c_5
    obtain ⟨ja, hja, heja, hcja⟩ := inR_t hina
    rw [heja] at hl
    rw [hcja] at hrla
    refine lv_aload_n hx hb dX8_release_10 rfl (lv_at hl 0 rfl) ?_
    refine mm_rv (va_runV (As := []) (rest := []) ⟨hx, hb, hml, hown, hts⟩ (t_remember l hT ((tw_un (by decide)).trans (hk4)) hk8) (cwV 0 hts (lw_V q2697 q2699 qs77 q164 q2700) rfl rfl rfl (by decide +kernel) ⟨Nat.le_of_ble_eq_true rfl, Nat.le_of_ble_eq_true rfl⟩) (mm_pV hKK (mm_rc hKK hT.2.1 mm_le.rf rfl)) rfl rfl hl.1 rfl (lv_room (Nat.le_of_ble_eq_true rfl)) dX8_release_11 ⟨Nat.le_of_ble_eq_true rfl, Nat.le_of_ble_eq_true rfl⟩) hS (mm_sS hS) (fun H_11 L_11 hB_11 hz_11 hq_11 hS => ?_)
    obtain ⟨I_11, F_11, hT, hx4_11, he_11, h3c_11, h3d_11⟩ := hB_11
    have hR := TRx he_11 (by decide) hR
    refine lv_aload_n hx hb dX8_release_14 rfl (lv_at hl 0 rfl) ?_
    refine lv_iload_n hx hb dX8_release_15 rfl (lv_at hl 1 rfl) ?_
    refine mm_ri (va_runV (As := [.int (nI ja)]) (rest := []) ⟨hx, hb, hml, hown, hts⟩ (t_releaseVersion l hT hR hW hG hja) (cwV 1 hts (lw_V q2797 q2799 qs102 q164 q2800) rfl rfl rfl (by decide +kernel) ⟨Nat.le_of_ble_eq_true rfl, Nat.le_of_ble_eq_true rfl⟩) (mm_pV hKK (mm_rc hKK hT.2.1 mm_le.rf rfl)) rfl rfl hl.1 rfl (lv_room (Nat.le_of_ble_eq_true rfl)) dX8_release_16 ⟨Nat.le_of_ble_eq_true rfl, Nat.le_of_ble_eq_true rfl⟩) hS (mm_sS hS) (fun H_16 L_16 hB_16 hz_16 hq_16 hS => ?_)
    obtain ⟨F_16, hT, he_16, hR⟩ := hB_16
    exact mm_iret (v := nI (s_garb (setR S ja))) hx hb hr hlk hS (Nat.le_of_ble_eq_true rfl) (Nat.le_of_ble_eq_true rfl) (⟨by rw [qv_t c_5, hcja], I_11, F_16, hT, by rw [if_pos (c_5)]; rw [hcja]; exact ⟨⟨hx4_11, fun j hj => (congrFun (he_16 3 (by decide)) _).trans (h3c_11 j hj), fun j hj => (congrFun (he_16 3 (by decide)) _).trans (h3d_11 j hj)⟩, (he_11.mono (by decide)).tr (he_16.mono (by decide)), hR⟩⟩) dX8_release_19
  · refine lv_iconst (v := nI 0) hx hb dX8_release_8 (by decide) ?_
    exact mm_iret (v := nI 0) hx hb hr hlk hS (Nat.le_of_ble_eq_true rfl) (Nat.le_of_ble_eq_true rfl) (⟨by rw [qv_f (c_5)]; rfl, _, F, hT, by rw [if_neg (by rw [c_5]; decide)]; exact ⟨rfl, rfl⟩⟩) dX8_release_9
set_option maxRecDepth 100000 in
theorem tm_collect (l : Launch) {G : mm_G} {P : mm_H} {H : Heap} {x : Nat} {ad : Nat → Nat} {I : Nat → Int32} {F : Nat → Nat → Int32} {S : sp_S} {k : Nat} (hT : TW G x ad I F H) (hR : TR (F 0) S) (hW : WF S) (hk4 : I 4 = nI k) (hk8 : k ≤ 8) (hG : HG S) : Mt l yX8_collect (ws_ yX8_collect cX8_collect 1 (some .int)) 12 600 0 0 G P [.ref x] H (tw_M x ad) (mm_i (nI (s_garb S)) (fun H2 => ∃ I2 F2, TW G x ad I2 F2 H2 ∧ ((exI [4] (upd I 6 (nI 0)) I2 ∧ I2 4 = nI (min k 7 + 1)) ∧ (∀ j, j < 4210 → F2 3 (4210 * min k 7 + j) = F 0 j) ∧ (∀ j, j < 4210 * min k 7 → F2 3 j = F 3 (j + (if k = 8 then 4210 else 0)))) ∧ eqx [0, 3, 11] F F2 ∧ TR (F2 0) (coll S))) := by
  refine Mt.of (by decide) (Nat.le_of_ble_eq_true rfl) (fun p e s m below meth c ls hx hb hr hlk hml hown hnm hts hKK hsH hl hS => ?_)
  have hl : lv_has ls 1 [(0, .ref x)] := hl
  have hR0 := hR
  have hMx : mm_A (tw_M x ad) H x := Or.inl (Or.inl rfl)
  have hMa : ∀ j, tw_isA j = true → mm_A (tw_M x ad) H (ad j) := fun j hj => Or.inl (Or.inr ⟨j, hj, rfl⟩)
  have hnv := hW.nv
  have hnn := hW.nn
  refine lv_aload_n hx hb dX8_collect_0 rfl (lv_at hl 0 rfl) ?_
  refine lv_iconst (v := nI 0) hx hb dX8_collect_1 (by decide) ?_
  refine tw_put 6 hx hb hts hown hKK hT hS (hMx) (by decide) rfl (by decide) ⟨rfl, rfl⟩ (hts _ q2504) dX8_collect_2 (fun H_2 L_2 hT hz_2 hq_2 hS => ?_)
  refine lv_aload_n hx hb dX8_collect_5 rfl (lv_at hl 0 rfl) ?_
  refine mm_rv (va_runV (As := []) (rest := []) ⟨hx, hb, hml, hown, hts⟩ (t_remember l hT ((tw_un (by decide)).trans (hk4)) hk8) (cwV 0 hts (lw_V q2697 q2699 qs77 q164 q2700) rfl rfl rfl (by decide +kernel) ⟨Nat.le_of_ble_eq_true rfl, Nat.le_of_ble_eq_true rfl⟩) (mm_pV hKK (mm_rc hKK hT.2.1 mm_le.rf rfl)) rfl rfl hl.1 rfl (lv_room (Nat.le_of_ble_eq_true rfl)) dX8_collect_6 ⟨Nat.le_of_ble_eq_true rfl, Nat.le_of_ble_eq_true rfl⟩) hS (mm_sS hS) (fun H_6 L_6 hB_6 hz_6 hq_6 hS => ?_)
  obtain ⟨I_6, F_6, hT, hx4_6, he_6, h3c_6, h3d_6⟩ := hB_6
  have hR := TRx he_6 (by decide) hR
  refine lv_aload_n hx hb dX8_collect_9 rfl (lv_at hl 0 rfl) ?_
  refine mm_ri (va_runV (As := []) (rest := []) ⟨hx, hb, hml, hown, hts⟩ (t_collectAll l hT hR hW hG) (cwV 0 hts (lw_V q2821 q2823 qs108 q164 q2824) rfl rfl rfl (by decide +kernel) ⟨Nat.le_of_ble_eq_true rfl, Nat.le_of_ble_eq_true rfl⟩) (mm_pV hKK (mm_rc hKK hT.2.1 mm_le.rf rfl)) rfl rfl hl.1 rfl (lv_room (Nat.le_of_ble_eq_true rfl)) dX8_collect_10 ⟨Nat.le_of_ble_eq_true rfl, Nat.le_of_ble_eq_true rfl⟩) hS (mm_sS hS) (fun H_10 L_10 hB_10 hz_10 hq_10 hS => ?_)
  obtain ⟨F_10, hT, he_10, hR⟩ := hB_10
  exact mm_iret (v := nI (s_garb S)) hx hb hr hlk hS (Nat.le_of_ble_eq_true rfl) (Nat.le_of_ble_eq_true rfl) (⟨rfl, I_6, F_10, hT, ⟨hx4_6, fun j hj => (congrFun (he_10 3 (by decide)) _).trans (h3c_6 j hj), fun j hj => (congrFun (he_10 3 (by decide)) _).trans (h3d_6 j hj)⟩, (he_6.mono (by decide)).tr (he_10.mono (by decide)), hR⟩) dX8_collect_13
