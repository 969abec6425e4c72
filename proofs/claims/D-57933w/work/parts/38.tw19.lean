/-! the twin: tokens taken, faults (printed by tools/tw19.py) -/
set_option maxRecDepth 100000 in
theorem t_advanceErr (l : Launch) {G : mm_G} {P : mm_H} {H : Heap} {x : Nat} {ad : Nat → Nat} {I : Nat → Int32} {F : Nat → Nat → Int32} {bt : Nat → Int32} {n : Nat} {c9 o9 : Nat} (hT : TW G x ad I F H) (hX : TX_ bt n I F) (hP : PS bt n (.error (c9, o9)) I) : Mt l yX8_advanceToken (ws_ yX8_advanceToken cX8_advanceToken 1 none) 6 200 0 0 G P [.ref x] H (tw_M x ad) (mm_v (fun H2 => ∃ I2, TW G x ad I2 F H2 ∧ exI [16, 17, 18, 19] I I2 ∧ PS bt n (p_adv bt n (.error (c9, o9))) I2)) := by
  refine Mt.of (by decide) (Nat.le_of_ble_eq_true rfl) (fun p e s m below meth c ls hx hb hr hlk hml hown hnm hts hKK hsH hl hS => ?_)
  have hl : lv_has ls 1 [(0, .ref x)] := hl
  have hMx : mm_A (tw_M x ad) H x := Or.inl (Or.inl rfl)
  have hMa : ∀ j, tw_isA j = true → mm_A (tw_M x ad) H (ad j) := fun j hj => Or.inl (Or.inr ⟨j, hj, rfl⟩)
  have hc1 : 1 ≤ c9 := hP.1.1
  have hc3 : c9 ≤ 3 := hP.1.2
  refine lv_aload_n hx hb dX8_advanceToken_0 rfl (lv_at hl 0 rfl) ?_
  refine tw_geti 20 (v := nI c9) hx hb hts hown hKK hT (by decide) rfl (hP.2.1) (hts _ q2518) dX8_advanceToken_1 ?_
  refine mm_if_le (tgt := 8) (by omega) hx hb dX8_advanceToken_4 (by decide) (fun c_4 => ?_) (fun c_4 => ?_)
  · exact absurd c_4 (by omega)
  · exact mm_vret hx hb hr hlk hS (Nat.le_of_ble_eq_true rfl) (Nat.le_of_ble_eq_true rfl) (⟨rfl, I, hT, exI.rf, hP⟩) dX8_advanceToken_7
theorem t_advance (l : Launch) {G : mm_G} {P : mm_H} {H : Heap} {x : Nat} {ad : Nat → Nat} {I : Nat → Int32} {F : Nat → Nat → Int32} {bt : Nat → Int32} {n : Nat} {r : pR Nat} (hT : TW G x ad I F H) (hX : TX_ bt n I F) (hP : PS bt n r I) : Mt l yX8_advanceToken (ws_ yX8_advanceToken cX8_advanceToken 1 none) 6 200 0 0 G P [.ref x] H (tw_M x ad) (mm_v (fun H2 => ∃ I2, TW G x ad I2 F H2 ∧ exI [16, 17, 18, 19] I I2 ∧ PS bt n (p_adv bt n (r)) I2)) := by
  cases r with
  | ok p => exact t_advanceOk l hT hX hP.2.1 hP.2.2.2.1 (tkE_le hP.1).2
  | error e => exact t_advanceErr l hT hX hP
set_option maxRecDepth 100000 in
theorem t_expectOk (l : Launch) {G : mm_G} {P : mm_H} {H : Heap} {x : Nat} {ad : Nat → Nat} {I : Nat → Int32} {F : Nat → Nat → Int32} {bt : Nat → Int32} {n : Nat} {p9 cd : Nat} {h9 : Bool} (hT : TW G x ad I F H) (hX : TX_ bt n I F) (hP : PS bt n (.ok p9) I) (hc1 : 1 ≤ cd) (hc3 : cd ≤ 3) : Mt l yX8_expect (ws_ yX8_expect cX8_expect 3 none) 2 40 0 0 G P [.ref x, .int (mm_b h9), .int (nI cd)] H (tw_M x ad) (mm_v (fun H2 => ∃ I2, TW G x ad I2 F H2 ∧ exI [20, 21] I I2 ∧ PS bt n (p_exp bt n (.ok p9) h9 cd) I2)) := by
  refine Mt.of (by decide) (Nat.le_of_ble_eq_true rfl) (fun p e s m below meth c ls hx hb hr hlk hml hown hnm hts hKK hsH hl hS => ?_)
  have hl : lv_has ls 3 [(0, .ref x), (1, .int (mm_b h9)), (2, .int (nI cd))] := hl
  have hMx : mm_A (tw_M x ad) H x := Or.inl (Or.inl rfl)
  have hMa : ∀ j, tw_isA j = true → mm_A (tw_M x ad) H (ad j) := fun j hj => Or.inl (Or.inr ⟨j, hj, rfl⟩)
  refine lv_aload_n hx hb dX8_expect_0 rfl (lv_at hl 0 rfl) ?_
  refine tw_geti 20 (v := nI 0) hx hb hts hown hKK hT (by decide) rfl (hP.2.1) (hts _ q2518) dX8_expect_1 ?_
  refine mm_if_ne (tgt := 24) (by omega) hx hb dX8_expect_4 (by decide) (fun c_4 => ?_) (fun c_4 => ?_)
  · exact absurd c_4 (by decide)
  · refine lv_iload_n hx hb dX8_expect_7 rfl (lv_at hl 1 rfl) ?_
    refine mm_ifneB (tgt := 24) hx hb dX8_expect_8 (by decide) (fun c_8 => ?_) (fun c_8 => ?_)
    · exact mm_vret hx hb hr hlk hS (Nat.le_of_ble_eq_true rfl) (Nat.le_of_ble_eq_true rfl) (⟨rfl, I, hT, exI.rf, by rw [p_exp_ok, if_pos c_8]; exact hP⟩) dX8_expect_24
    · refine lv_aload_n hx hb dX8_expect_11 rfl (lv_at hl 0 rfl) ?_
      refine lv_iload_n hx hb dX8_expect_12 rfl (lv_at hl 2 rfl) ?_
      refine tw_put 20 hx hb hts hown hKK hT hS (hMx) (by decide) rfl (by decide) ⟨rfl, rfl⟩ (hts _ q2518) dX8_expect_13 (fun H_13 L_13 hT hz_13 hq_13 hS => ?_)
      refine lv_aload_n hx hb dX8_expect_16 rfl (lv_at hl 0 rfl) ?_
      refine lv_aload_n hx hb dX8_expect_17 rfl (lv_at hl 0 rfl) ?_
      refine tw_geti 16 (v := nI (tkS bt n p9)) hx hb hts hown hKK hT (by decide) rfl ((tw_un (by decide)).trans (hP.2.2.1)) (hts _ q2514) dX8_expect_18 ?_
      refine tw_put 21 hx hb hts hown hKK hT hS (hMx) (by decide) rfl (by decide) ⟨rfl, rfl⟩ (hts _ q2519) dX8_expect_21 (fun H_21 L_21 hT hz_21 hq_21 hS => ?_)
      exact mm_vret hx hb hr hlk hS (Nat.le_of_ble_eq_true rfl) (Nat.le_of_ble_eq_true rfl) (⟨rfl, _, hT, (exI.u (by decide)).tr (exI.u (by decide)), by rw [p_exp_ok, if_neg (by rw [c_8]; decide)]; exact ⟨⟨hc1, hc3⟩, (tw_un (by decide)).trans (tw_up _ _ _), tw_up _ _ _⟩⟩) dX8_expect_24
set_option maxRecDepth 100000 in
theorem t_expectErr (l : Launch) {G : mm_G} {P : mm_H} {H : Heap} {x : Nat} {ad : Nat → Nat} {I : Nat → Int32} {F : Nat → Nat → Int32} {bt : Nat → Int32} {n : Nat} {c9 o9 cd : Nat} {h9 : Bool} (hT : TW G x ad I F H) (hX : TX_ bt n I F) (hP : PS bt n (.error (c9, o9)) I) : Mt l yX8_expect (ws_ yX8_expect cX8_expect 3 none) 2 40 0 0 G P [.ref x, .int (mm_b h9), .int (nI cd)] H (tw_M x ad) (mm_v (fun H2 => ∃ I2, TW G x ad I2 F H2 ∧ exI [20, 21] I I2 ∧ PS bt n (p_exp bt n (.error (c9, o9)) h9 cd) I2)) := by
  refine Mt.of (by decide) (Nat.le_of_ble_eq_true rfl) (fun p e s m below meth c ls hx hb hr hlk hml hown hnm hts hKK hsH hl hS => ?_)
  have hl : lv_has ls 3 [(0, .ref x), (1, .int (mm_b h9)), (2, .int (nI cd))] := hl
  have hMx : mm_A (tw_M x ad) H x := Or.inl (Or.inl rfl)
  have hMa : ∀ j, tw_isA j = true → mm_A (tw_M x ad) H (ad j) := fun j hj => Or.inl (Or.inr ⟨j, hj, rfl⟩)
  have hc1 : 1 ≤ c9 := hP.1.1
  have hc3 : c9 ≤ 3 := hP.1.2
  refine lv_aload_n hx hb dX8_expect_0 rfl (lv_at hl 0 rfl) ?_
  refine tw_geti 20 (v := nI c9) hx hb hts hown hKK hT (by decide) rfl (hP.2.1) (hts _ q2518) dX8_expect_1 ?_
  refine mm_if_ne (tgt := 24) (by omega) hx hb dX8_expect_4 (by decide) (fun c_4 => ?_) (fun c_4 => ?_)
  · exact mm_vret hx hb hr hlk hS (Nat.le_of_ble_eq_true rfl) (Nat.le_of_ble_eq_true rfl) (⟨rfl, I, hT, exI.rf, hP⟩) dX8_expect_24
  · exact absurd c_4 (by omega)
theorem t_expect (l : Launch) {G : mm_G} {P : mm_H} {H : Heap} {x : Nat} {ad : Nat → Nat} {I : Nat → Int32} {F : Nat → Nat → Int32} {bt : Nat → Int32} {n : Nat} {r : pR Nat} {cd : Nat} {h9 : Bool} (hT : TW G x ad I F H) (hX : TX_ bt n I F) (hP : PS bt n r I) (hc1 : 1 ≤ cd) (hc3 : cd ≤ 3) : Mt l yX8_expect (ws_ yX8_expect cX8_expect 3 none) 2 40 0 0 G P [.ref x, .int (mm_b h9), .int (nI cd)] H (tw_M x ad) (mm_v (fun H2 => ∃ I2, TW G x ad I2 F H2 ∧ exI [20, 21] I I2 ∧ PS bt n (p_exp bt n (r) h9 cd) I2)) := by
  cases r with
  | ok p => exact t_expectOk l hT hX hP hc1 hc3
  | error e => exact t_expectErr l hT hX hP
