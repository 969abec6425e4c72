/-! the twin: made (printed by tools/tw28.py) -/
set_option maxRecDepth 100000 in
theorem t_thrown (l : Launch) {G : mm_G} {P : mm_H} {H : Heap} {x : Nat} {ad : Nat → Nat} {I : Nat → Int32} {F : Nat → Nat → Int32} (hT : TW G x ad I F H) : Mt l yX8_thrown (ws_ yX8_thrown cX8_thrown 1 (some .int)) 0 0 0 0 G P [.ref x] H mm_0 (mm_pu (.int (I 6)) H) := by
  refine Mt.of (by decide) (Nat.le_of_ble_eq_true rfl) (fun p e s m below meth c ls hx hb hr hlk hml hown hnm hts hKK hsH hl hS => ?_)
  have hl : lv_has ls 1 [(0, .ref x)] := hl
  refine lv_aload_n hx hb dX8_thrown_0 rfl (lv_at hl 0 rfl) ?_
  refine tw_geti 6 (v := I 6) hx hb hts hown hKK hT (by decide) rfl (rfl) (hts _ q2504) dX8_thrown_1 ?_
  exact mm_iret (v := I 6) hx hb hr hlk hS (Nat.le_of_ble_eq_true rfl) (Nat.le_of_ble_eq_true rfl) (⟨rfl, rfl⟩) dX8_thrown_4
/-- the first elements -/
def ev0 (i : Nat) : Int32 := ([5, -2, 7, 7, 0, 12, 3, 1, 9, 4] : List Int32).getD i 0
theorem tw_isA_c {k : Nat} (h : tw_isA k = true) : k = 0 ∨ k = 1 ∨ k = 2 ∨ k = 3 ∨ k = 7 ∨ k = 8 ∨ k = 10 ∨ k = 11 ∨ k = 12 ∨ k = 22 ∨ k = 24 ∨ k = 26 := by
  unfold tw_isA at h
  split at h <;> first | (cases h; done) | decide
/-- addresses that grow -/
theorem tw_D_of {x n : Nat} {ad : Nat → Nat} (hx : x < n) (h : ∀ k, tw_isA k = true → ad k = n + k) : tw_D x ad :=
  ⟨fun k hk => by have := h k hk; omega, fun j k hj hk e => by have := h j hj; have := h k hk; omega⟩
theorem tw_D_mono {x n : Nat} {ad : Nat → Nat} (hx : x < n) (h0 : n ≤ ad 0) (h1 : ad 0 < ad 1) (h2 : ad 1 < ad 2) (h3 : ad 2 < ad 3) (h7 : ad 3 < ad 7) (h8 : ad 7 < ad 8) (h10 : ad 8 < ad 10) (h11 : ad 10 < ad 11) (h12 : ad 11 < ad 12) (h22 : ad 12 < ad 22) (h24 : ad 22 < ad 24) (h26 : ad 24 < ad 26) : tw_D x ad := by
  refine ⟨fun k hk => ?_, fun j k hj hk e => ?_⟩
  · rcases tw_isA_c hk with rfl | rfl | rfl | rfl | rfl | rfl | rfl | rfl | rfl | rfl | rfl | rfl <;> omega
  · rcases tw_isA_c hj with rfl | rfl | rfl | rfl | rfl | rfl | rfl | rfl | rfl | rfl | rfl | rfl <;> rcases tw_isA_c hk with rfl | rfl | rfl | rfl | rfl | rfl | rfl | rfl | rfl | rfl | rfl | rfl <;> first | rfl | omega
set_option maxRecDepth 100000 in
theorem t_init (l : Launch) {G : mm_G} {P : mm_H} {H : Heap} {x : Nat} (hO : mm_ob G (mm_h H) x 14 [.null, .null, .null, .null, .int 0, .int 0, .int 0, .null, .null, .int 0, .null, .null, .null, .int 0, .int 0, .int 0, .int 0, .int 0, .int 0, .int 0, .int 0, .int 0, .null, .int 0, .null, .int 0, .null, .int 0]) : Mt l yX8_init (ws_ yX8_init cX8_init 3 none) 12 600 13 47758 G P [.ref x] H (fun q => q = x) (mm_v (fun H2 => ∃ ad I F, TW G x ad I F H2 ∧ (∀ k, tw_isA k = true → H.size ≤ ad k) ∧ (I 4 = nI 0 ∧ I 5 = nI 0 ∧ I 6 = nI 0 ∧ I 13 = nI 0 ∧ I 14 = nI 0 ∧ I 15 = -1 ∧ I 27 = nI 0) ∧ TR (F 0) (begS 10 ev0))) := by
  refine Mt.of (by decide) (Nat.le_of_ble_eq_true rfl) (fun p e s m below meth c ls hx hb hr hlk hml hown hnm hts hKK hsH hl hS => ?_)
  have hl : lv_has ls 3 [(0, .ref x)] := hl
  have hltx9 : x < H.size := hO.lt
  refine lv_aload_n hx hb dX8_init_0 rfl (lv_at hl 0 rfl) ?_
  refine W.objInit hx hb hown (hts _ q2445) (hts _ q190) (hts _ q191) rfl (by rw [hml]; exact hl.1) rfl dX8_init_1 (Nat.le_of_ble_eq_true rfl) (Nat.le_of_ble_eq_true rfl) ?_
  refine lv_aload_n hx hb dX8_init_4 rfl (lv_at hl 0 rfl) ?_
  refine lv_sipush (v := nI 4210) hx hb dX8_init_5 (by decide) ?_
  have hlt_x := hO.lt
  have hs1 := hS.1
  refine mm_newa 0 .int rfl rfl (fun C z => by cases z) hx hb (hts _ q225) hKK hS (N := 4210) (f := fun _ => .int 0) rfl (by decide) (by decide) (Nat.le_of_ble_eq_true rfl) (Nat.le_of_ble_eq_true rfl) dX8_init_8 (fun a_8 H_8 ea_8 ha_8 hz_8 hq_8 hS => ?_)
  have ha_8 : mm_ia G (mm_h H_8) a_8 0 4210 (fun _ => 0) := ha_8
  have hO := hO.kept (hq_8 _ hO.lt)
  have hle_a_8 : H.size ≤ a_8 := by rw [ea_8]; exact hs1
  have hgt_x_a_8 : x < a_8 := by rw [ea_8]; exact hlt_x
  refine mm_putF (C := RX8) (T := TX8) (N := 28) (ci := 14) (v := .ref a_8) (ty := (.array .int)) hx hb hts in_X8 tyX8 tyX8_ok nmX8 hown hKK hO hS (Or.inl rfl) rfl 0 (by decide) (hts _ q2498) (fun _ h9 => h9) rfl hnm rfl (by decide +kernel) (rfl) (rfl) (Nat.le_of_ble_eq_true rfl) dX8_init_10 (fun H_10 L_10 hO hz_10 hq_10 hS => ?_)
  have hO : mm_ob G (mm_h H_10) x 14 [.ref a_8, .null, .null, .null, .int (nI 0), .int (nI 0), .int (nI 0), .null, .null, .int (nI 0), .null, .null, .null, .int (nI 0), .int (nI 0), .int (nI 0), .int (nI 0), .int (nI 0), .int (nI 0), .int (nI 0), .int (nI 0), .int (nI 0), .null, .int (nI 0), .null, .int (nI 0), .null, .int (nI 0)] := hO
  have ha_8 := ha_8.kept (hq_10 _ ((Nat.ne_of_lt hgt_x_a_8).symm))
  refine lv_aload_n hx hb dX8_init_13 rfl (lv_at hl 0 rfl) ?_
  refine lv_sipush (v := nI 4210) hx hb dX8_init_14 (by decide) ?_
  have hlt_x := hO.lt
  have hlt_a_8 := ha_8.lt
  have hs1 := hS.1
  refine mm_newa 0 .int rfl rfl (fun C z => by cases z) hx hb (hts _ q225) hKK hS (N := 4210) (f := fun _ => .int 0) rfl (by decide) (by decide) (Nat.le_of_ble_eq_true rfl) (Nat.le_of_ble_eq_true rfl) dX8_init_17 (fun a_17 H_17 ea_17 ha_17 hz_17 hq_17 hS => ?_)
  have ha_17 : mm_ia G (mm_h H_17) a_17 0 4210 (fun _ => 0) := ha_17
  have hO := hO.kept (hq_17 _ hO.lt)
  have ha_8 := ha_8.kept (hq_17 _ ha_8.lt)
  have hle_a_17 : H.size ≤ a_17 := by rw [ea_17]; exact hs1
  have hgt_x_a_17 : x < a_17 := by rw [ea_17]; exact hlt_x
  have hgt_a_8_a_17 : a_8 < a_17 := by rw [ea_17]; exact hlt_a_8
  refine mm_putF (C := RX8) (T := TX8) (N := 28) (ci := 14) (v := .ref a_17) (ty := (.array .int)) hx hb hts in_X8 tyX8 tyX8_ok nmX8 hown hKK hO hS (Or.inl rfl) rfl 1 (by decide) (hts _ q2499) (fun _ h9 => h9) rfl hnm rfl (by decide +kernel) (rfl) (rfl) (Nat.le_of_ble_eq_true rfl) dX8_init_19 (fun H_19 L_19 hO hz_19 hq_19 hS => ?_)
  have hO : mm_ob G (mm_h H_19) x 14 [.ref a_8, .ref a_17, .null, .null, .int (nI 0), .int (nI 0), .int (nI 0), .null, .null, .int (nI 0), .null, .null, .null, .int (nI 0), .int (nI 0), .int (nI 0), .int (nI 0), .int (nI 0), .int (nI 0), .int (nI 0), .int (nI 0), .int (nI 0), .null, .int (nI 0), .null, .int (nI 0), .null, .int (nI 0)] := hO
  have ha_8 := ha_8.kept (hq_19 _ ((Nat.ne_of_lt hgt_x_a_8).symm))
  have ha_17 := ha_17.kept (hq_19 _ ((Nat.ne_of_lt hgt_x_a_17).symm))
  refine lv_aload_n hx hb dX8_init_22 rfl (lv_at hl 0 rfl) ?_
  refine lv_sipush (v := nI 4210) hx hb dX8_init_23 (by decide) ?_
  have hlt_x := hO.lt
  have hlt_a_8 := ha_8.lt
  have hlt_a_17 := ha_17.lt
  have hs1 := hS.1
  refine mm_newa 0 .int rfl rfl (fun C z => by cases z) hx hb (hts _ q225) hKK hS (N := 4210) (f := fun _ => .int 0) rfl (by decide) (by decide) (Nat.le_of_ble_eq_true rfl) (Nat.le_of_ble_eq_true rfl) dX8_init_26 (fun a_26 H_26 ea_26 ha_26 hz_26 hq_26 hS => ?_)
  have ha_26 : mm_ia G (mm_h H_26) a_26 0 4210 (fun _ => 0) := ha_26
  have hO := hO.kept (hq_26 _ hO.lt)
  have ha_8 := ha_8.kept (hq_26 _ ha_8.lt)
  have ha_17 := ha_17.kept (hq_26 _ ha_17.lt)
  have hle_a_26 : H.size ≤ a_26 := by rw [ea_26]; exact hs1
  have hgt_x_a_26 : x < a_26 := by rw [ea_26]; exact hlt_x
  have hgt_a_8_a_26 : a_8 < a_26 := by rw [ea_26]; exact hlt_a_8
  have hgt_a_17_a_26 : a_17 < a_26 := by rw [ea_26]; exact hlt_a_17
  refine mm_putF (C := RX8) (T := TX8) (N := 28) (ci := 14) (v := .ref a_26) (ty := (.array .int)) hx hb hts in_X8 tyX8 tyX8_ok nmX8 hown hKK hO hS (Or.inl rfl) rfl 2 (by decide) (hts _ q2500) (fun _ h9 => h9) rfl hnm rfl (by decide +kernel) (rfl) (rfl) (Nat.le_of_ble_eq_true rfl) dX8_init_28 (fun H_28 L_28 hO hz_28 hq_28 hS => ?_)
  have hO : mm_ob G (mm_h H_28) x 14 [.ref a_8, .ref a_17, .ref a_26, .null, .int (nI 0), .int (nI 0), .int (nI 0), .null, .null, .int (nI 0), .null, .null, .null, .int (nI 0), .int (nI 0), .int (nI 0), .int (nI 0), .int (nI 0), .int (nI 0), .int (nI 0), .int (nI 0), .int (nI 0), .null, .int (nI 0), .null, .int (nI 0), .null, .int (nI 0)] := hO
  have ha_8 := ha_8.kept (hq_28 _ ((Nat.ne_of_lt hgt_x_a_8).symm))
  have ha_17 := ha_17.kept (hq_28 _ ((Nat.ne_of_lt hgt_x_a_17).symm))
  have ha_26 := ha_26.kept (hq_28 _ ((Nat.ne_of_lt hgt_x_a_26).symm))
  refine lv_aload_n hx hb dX8_init_31 rfl (lv_at hl 0 rfl) ?_
  refine lv_ldc (v := 33680) hx hb hown (hts _ q2446) dX8_init_32 ?_
  refine mm_top (y := nI 33680) rfl ?_
  have hlt_x := hO.lt
  have hlt_a_8 := ha_8.lt
  have hlt_a_17 := ha_17.lt
  have hlt_a_26 := ha_26.lt
  have hs1 := hS.1
  refine mm_newa 0 .int rfl rfl (fun C z => by cases z) hx hb (hts _ q225) hKK hS (N := 33680) (f := fun _ => .int 0) rfl (by decide) (by decide) (Nat.le_of_ble_eq_true rfl) (Nat.le_of_ble_eq_true rfl) dX8_init_34 (fun a_34 H_34 ea_34 ha_34 hz_34 hq_34 hS => ?_)
  have ha_34 : mm_ia G (mm_h H_34) a_34 0 33680 (fun _ => 0) := ha_34
  have hO := hO.kept (hq_34 _ hO.lt)
  have ha_8 := ha_8.kept (hq_34 _ ha_8.lt)
  have ha_17 := ha_17.kept (hq_34 _ ha_17.lt)
  have ha_26 := ha_26.kept (hq_34 _ ha_26.lt)
  have hle_a_34 : H.size ≤ a_34 := by rw [ea_34]; exact hs1
  have hgt_x_a_34 : x < a_34 := by rw [ea_34]; exact hlt_x
  have hgt_a_8_a_34 : a_8 < a_34 := by rw [ea_34]; exact hlt_a_8
  have hgt_a_17_a_34 : a_17 < a_34 := by rw [ea_34]; exact hlt_a_17
  have hgt_a_26_a_34 : a_26 < a_34 := by rw [ea_34]; exact hlt_a_26
  refine mm_putF (C := RX8) (T := TX8) (N := 28) (ci := 14) (v := .ref a_34) (ty := (.array .int)) hx hb hts in_X8 tyX8 tyX8_ok nmX8 hown hKK hO hS (Or.inl rfl) rfl 3 (by decide) (hts _ q2501) (fun _ h9 => h9) rfl hnm rfl (by decide +kernel) (rfl) (rfl) (Nat.le_of_ble_eq_true rfl) dX8_init_36 (fun H_36 L_36 hO hz_36 hq_36 hS => ?_)
  have hO : mm_ob G (mm_h H_36) x 14 [.ref a_8, .ref a_17, .ref a_26, .ref a_34, .int (nI 0), .int (nI 0), .int (nI 0), .null, .null, .int (nI 0), .null, .null, .null, .int (nI 0), .int (nI 0), .int (nI 0), .int (nI 0), .int (nI 0), .int (nI 0), .int (nI 0), .int (nI 0), .int (nI 0), .null, .int (nI 0), .null, .int (nI 0), .null, .int (nI 0)] := hO
  have ha_8 := ha_8.kept (hq_36 _ ((Nat.ne_of_lt hgt_x_a_8).symm))
  have ha_17 := ha_17.kept (hq_36 _ ((Nat.ne_of_lt hgt_x_a_17).symm))
  have ha_26 := ha_26.kept (hq_36 _ ((Nat.ne_of_lt hgt_x_a_26).symm))
  have ha_34 := ha_34.kept (hq_36 _ ((Nat.ne_of_lt hgt_x_a_34).symm))
  refine lv_aload_n hx hb dX8_init_39 rfl (lv_at hl 0 rfl) ?_
  refine lv_iconst (v := nI 4) hx hb dX8_init_40 (by decide) ?_
  have hlt_x := hO.lt
  have hlt_a_8 := ha_8.lt
  have hlt_a_17 := ha_17.lt
  have hlt_a_26 := ha_26.lt
  have hlt_a_34 := ha_34.lt
  have hs1 := hS.1
  refine mm_newa 0 .int rfl rfl (fun C z => by cases z) hx hb (hts _ q225) hKK hS (N := 4) (f := fun _ => .int 0) rfl (by decide) (by decide) (Nat.le_of_ble_eq_true rfl) (Nat.le_of_ble_eq_true rfl) dX8_init_41 (fun a_41 H_41 ea_41 ha_41 hz_41 hq_41 hS => ?_)
  have ha_41 : mm_ia G (mm_h H_41) a_41 0 4 (fun _ => 0) := ha_41
  have hO := hO.kept (hq_41 _ hO.lt)
  have ha_8 := ha_8.kept (hq_41 _ ha_8.lt)
  have ha_17 := ha_17.kept (hq_41 _ ha_17.lt)
  have ha_26 := ha_26.kept (hq_41 _ ha_26.lt)
  have ha_34 := ha_34.kept (hq_41 _ ha_34.lt)
  have hle_a_41 : H.size ≤ a_41 := by rw [ea_41]; exact hs1
  have hgt_x_a_41 : x < a_41 := by rw [ea_41]; exact hlt_x
  have hgt_a_8_a_41 : a_8 < a_41 := by rw [ea_41]; exact hlt_a_8
  have hgt_a_17_a_41 : a_17 < a_41 := by rw [ea_41]; exact hlt_a_17
  have hgt_a_26_a_41 : a_26 < a_41 := by rw [ea_41]; exact hlt_a_26
  have hgt_a_34_a_41 : a_34 < a_41 := by rw [ea_41]; exact hlt_a_34
  refine mm_putF (C := RX8) (T := TX8) (N := 28) (ci := 14) (v := .ref a_41) (ty := (.array .int)) hx hb hts in_X8 tyX8 tyX8_ok nmX8 hown hKK hO hS (Or.inl rfl) rfl 7 (by decide) (hts _ q2505) (fun _ h9 => h9) rfl hnm rfl (by decide +kernel) (rfl) (rfl) (Nat.le_of_ble_eq_true rfl) dX8_init_43 (fun H_43 L_43 hO hz_43 hq_43 hS => ?_)
  have hO : mm_ob G (mm_h H_43) x 14 [.ref a_8, .ref a_17, .ref a_26, .ref a_34, .int (nI 0), .int (nI 0), .int (nI 0), .ref a_41, .null, .int (nI 0), .null, .null, .null, .int (nI 0), .int (nI 0), .int (nI 0), .int (nI 0), .int (nI 0), .int (nI 0), .int (nI 0), .int (nI 0), .int (nI 0), .null, .int (nI 0), .null, .int (nI 0), .null, .int (nI 0)] := hO
  have ha_8 := ha_8.kept (hq_43 _ ((Nat.ne_of_lt hgt_x_a_8).symm))
  have ha_17 := ha_17.kept (hq_43 _ ((Nat.ne_of_lt hgt_x_a_17).symm))
  have ha_26 := ha_26.kept (hq_43 _ ((Nat.ne_of_lt hgt_x_a_26).symm))
  have ha_34 := ha_34.kept (hq_43 _ ((Nat.ne_of_lt hgt_x_a_34).symm))
  have ha_41 := ha_41.kept (hq_43 _ ((Nat.ne_of_lt hgt_x_a_41).symm))
  refine lv_aload_n hx hb dX8_init_46 rfl (lv_at hl 0 rfl) ?_
  refine lv_bipush (v := nI 64) hx hb dX8_init_47 (by decide) ?_
  have hlt_x := hO.lt
  have hlt_a_8 := ha_8.lt
  have hlt_a_17 := ha_17.lt
  have hlt_a_26 := ha_26.lt
  have hlt_a_34 := ha_34.lt
  have hlt_a_41 := ha_41.lt
  have hs1 := hS.1
  refine mm_newa 0 .int rfl rfl (fun C z => by cases z) hx hb (hts _ q225) hKK hS (N := 64) (f := fun _ => .int 0) rfl (by decide) (by decide) (Nat.le_of_ble_eq_true rfl) (Nat.le_of_ble_eq_true rfl) dX8_init_49 (fun a_49 H_49 ea_49 ha_49 hz_49 hq_49 hS => ?_)
  have ha_49 : mm_ia G (mm_h H_49) a_49 0 64 (fun _ => 0) := ha_49
  have hO := hO.kept (hq_49 _ hO.lt)
  have ha_8 := ha_8.kept (hq_49 _ ha_8.lt)
  have ha_17 := ha_17.kept (hq_49 _ ha_17.lt)
  have ha_26 := ha_26.kept (hq_49 _ ha_26.lt)
  have ha_34 := ha_34.kept (hq_49 _ ha_34.lt)
  have ha_41 := ha_41.kept (hq_49 _ ha_41.lt)
  have hle_a_49 : H.size ≤ a_49 := by rw [ea_49]; exact hs1
  have hgt_x_a_49 : x < a_49 := by rw [ea_49]; exact hlt_x
  have hgt_a_8_a_49 : a_8 < a_49 := by rw [ea_49]; exact hlt_a_8
  have hgt_a_17_a_49 : a_17 < a_49 := by rw [ea_49]; exact hlt_a_17
  have hgt_a_26_a_49 : a_26 < a_49 := by rw [ea_49]; exact hlt_a_26
  have hgt_a_34_a_49 : a_34 < a_49 := by rw [ea_49]; exact hlt_a_34
  have hgt_a_41_a_49 : a_41 < a_49 := by rw [ea_49]; exact hlt_a_41
  refine mm_putF (C := RX8) (T := TX8) (N := 28) (ci := 14) (v := .ref a_49) (ty := (.array .int)) hx hb hts in_X8 tyX8 tyX8_ok nmX8 hown hKK hO hS (Or.inl rfl) rfl 8 (by decide) (hts _ q2506) (fun _ h9 => h9) rfl hnm rfl (by decide +kernel) (rfl) (rfl) (Nat.le_of_ble_eq_true rfl) dX8_init_51 (fun H_51 L_51 hO hz_51 hq_51 hS => ?_)
  have hO : mm_ob G (mm_h H_51) x 14 [.ref a_8, .ref a_17, .ref a_26, .ref a_34, .int (nI 0), .int (nI 0), .int (nI 0), .ref a_41, .ref a_49, .int (nI 0), .null, .null, .null, .int (nI 0), .int (nI 0), .int (nI 0), .int (nI 0), .int (nI 0), .int (nI 0), .int (nI 0), .int (nI 0), .int (nI 0), .null, .int (nI 0), .null, .int (nI 0), .null, .int (nI 0)] := hO
  have ha_8 := ha_8.kept (hq_51 _ ((Nat.ne_of_lt hgt_x_a_8).symm))
  have ha_17 := ha_17.kept (hq_51 _ ((Nat.ne_of_lt hgt_x_a_17).symm))
  have ha_26 := ha_26.kept (hq_51 _ ((Nat.ne_of_lt hgt_x_a_26).symm))
  have ha_34 := ha_34.kept (hq_51 _ ((Nat.ne_of_lt hgt_x_a_34).symm))
  have ha_41 := ha_41.kept (hq_51 _ ((Nat.ne_of_lt hgt_x_a_41).symm))
  have ha_49 := ha_49.kept (hq_51 _ ((Nat.ne_of_lt hgt_x_a_49).symm))
  refine lv_aload_n hx hb dX8_init_54 rfl (lv_at hl 0 rfl) ?_
  refine lv_bipush (v := nI 64) hx hb dX8_init_55 (by decide) ?_
  have hlt_x := hO.lt
  have hlt_a_8 := ha_8.lt
  have hlt_a_17 := ha_17.lt
  have hlt_a_26 := ha_26.lt
  have hlt_a_34 := ha_34.lt
  have hlt_a_41 := ha_41.lt
  have hlt_a_49 := ha_49.lt
  have hs1 := hS.1
  refine mm_newa 0 .int rfl rfl (fun C z => by cases z) hx hb (hts _ q225) hKK hS (N := 64) (f := fun _ => .int 0) rfl (by decide) (by decide) (Nat.le_of_ble_eq_true rfl) (Nat.le_of_ble_eq_true rfl) dX8_init_57 (fun a_57 H_57 ea_57 ha_57 hz_57 hq_57 hS => ?_)
  have ha_57 : mm_ia G (mm_h H_57) a_57 0 64 (fun _ => 0) := ha_57
  have hO := hO.kept (hq_57 _ hO.lt)
  have ha_8 := ha_8.kept (hq_57 _ ha_8.lt)
  have ha_17 := ha_17.kept (hq_57 _ ha_17.lt)
  have ha_26 := ha_26.kept (hq_57 _ ha_26.lt)
  have ha_34 := ha_34.kept (hq_57 _ ha_34.lt)
  have ha_41 := ha_41.kept (hq_57 _ ha_41.lt)
  have ha_49 := ha_49.kept (hq_57 _ ha_49.lt)
  have hle_a_57 : H.size ≤ a_57 := by rw [ea_57]; exact hs1
  have hgt_x_a_57 : x < a_57 := by rw [ea_57]; exact hlt_x
  have hgt_a_8_a_57 : a_8 < a_57 := by rw [ea_57]; exact hlt_a_8
  have hgt_a_17_a_57 : a_17 < a_57 := by rw [ea_57]; exact hlt_a_17
  have hgt_a_26_a_57 : a_26 < a_57 := by rw [ea_57]; exact hlt_a_26
  have hgt_a_34_a_57 : a_34 < a_57 := by rw [ea_57]; exact hlt_a_34
  have hgt_a_41_a_57 : a_41 < a_57 := by rw [ea_57]; exact hlt_a_41
  have hgt_a_49_a_57 : a_49 < a_57 := by rw [ea_57]; exact hlt_a_49
  refine mm_putF (C := RX8) (T := TX8) (N := 28) (ci := 14) (v := .ref a_57) (ty := (.array .int)) hx hb hts in_X8 tyX8 tyX8_ok nmX8 hown hKK hO hS (Or.inl rfl) rfl 10 (by decide) (hts _ q2508) (fun _ h9 => h9) rfl hnm rfl (by decide +kernel) (rfl) (rfl) (Nat.le_of_ble_eq_true rfl) dX8_init_59 (fun H_59 L_59 hO hz_59 hq_59 hS => ?_)
  have hO : mm_ob G (mm_h H_59) x 14 [.ref a_8, .ref a_17, .ref a_26, .ref a_34, .int (nI 0), .int (nI 0), .int (nI 0), .ref a_41, .ref a_49, .int (nI 0), .ref a_57, .null, .null, .int (nI 0), .int (nI 0), .int (nI 0), .int (nI 0), .int (nI 0), .int (nI 0), .int (nI 0), .int (nI 0), .int (nI 0), .null, .int (nI 0), .null, .int (nI 0), .null, .int (nI 0)] := hO
  have ha_8 := ha_8.kept (hq_59 _ ((Nat.ne_of_lt hgt_x_a_8).symm))
  have ha_17 := ha_17.kept (hq_59 _ ((Nat.ne_of_lt hgt_x_a_17).symm))
  have ha_26 := ha_26.kept (hq_59 _ ((Nat.ne_of_lt hgt_x_a_26).symm))
  have ha_34 := ha_34.kept (hq_59 _ ((Nat.ne_of_lt hgt_x_a_34).symm))
  have ha_41 := ha_41.kept (hq_59 _ ((Nat.ne_of_lt hgt_x_a_41).symm))
  have ha_49 := ha_49.kept (hq_59 _ ((Nat.ne_of_lt hgt_x_a_49).symm))
  have ha_57 := ha_57.kept (hq_59 _ ((Nat.ne_of_lt hgt_x_a_57).symm))
  refine lv_aload_n hx hb dX8_init_62 rfl (lv_at hl 0 rfl) ?_
  refine lv_sipush (v := nI 200) hx hb dX8_init_63 (by decide) ?_
  have hlt_x := hO.lt
  have hlt_a_8 := ha_8.lt
  have hlt_a_17 := ha_17.lt
  have hlt_a_26 := ha_26.lt
  have hlt_a_34 := ha_34.lt
  have hlt_a_41 := ha_41.lt
  have hlt_a_49 := ha_49.lt
  have hlt_a_57 := ha_57.lt
  have hs1 := hS.1
  refine mm_newa 0 .int rfl rfl (fun C z => by cases z) hx hb (hts _ q225) hKK hS (N := 200) (f := fun _ => .int 0) rfl (by decide) (by decide) (Nat.le_of_ble_eq_true rfl) (Nat.le_of_ble_eq_true rfl) dX8_init_66 (fun a_66 H_66 ea_66 ha_66 hz_66 hq_66 hS => ?_)
  have ha_66 : mm_ia G (mm_h H_66) a_66 0 200 (fun _ => 0) := ha_66
  have hO := hO.kept (hq_66 _ hO.lt)
  have ha_8 := ha_8.kept (hq_66 _ ha_8.lt)
  have ha_17 := ha_17.kept (hq_66 _ ha_17.lt)
  have ha_26 := ha_26.kept (hq_66 _ ha_26.lt)
  have ha_34 := ha_34.kept (hq_66 _ ha_34.lt)
  have ha_41 := ha_41.kept (hq_66 _ ha_41.lt)
  have ha_49 := ha_49.kept (hq_66 _ ha_49.lt)
  have ha_57 := ha_57.kept (hq_66 _ ha_57.lt)
  have hle_a_66 : H.size ≤ a_66 := by rw [ea_66]; exact hs1
  have hgt_x_a_66 : x < a_66 := by rw [ea_66]; exact hlt_x
  have hgt_a_8_a_66 : a_8 < a_66 := by rw [ea_66]; exact hlt_a_8
  have hgt_a_17_a_66 : a_17 < a_66 := by rw [ea_66]; exact hlt_a_17
  have hgt_a_26_a_66 : a_26 < a_66 := by rw [ea_66]; exact hlt_a_26
  have hgt_a_34_a_66 : a_34 < a_66 := by rw [ea_66]; exact hlt_a_34
  have hgt_a_41_a_66 : a_41 < a_66 := by rw [ea_66]; exact hlt_a_41
  have hgt_a_49_a_66 : a_49 < a_66 := by rw [ea_66]; exact hlt_a_49
  have hgt_a_57_a_66 : a_57 < a_66 := by rw [ea_66]; exact hlt_a_57
  refine mm_putF (C := RX8) (T := TX8) (N := 28) (ci := 14) (v := .ref a_66) (ty := (.array .int)) hx hb hts in_X8 tyX8 tyX8_ok nmX8 hown hKK hO hS (Or.inl rfl) rfl 11 (by decide) (hts _ q2509) (fun _ h9 => h9) rfl hnm rfl (by decide +kernel) (rfl) (rfl) (Nat.le_of_ble_eq_true rfl) dX8_init_68 (fun H_68 L_68 hO hz_68 hq_68 hS => ?_)
  have hO : mm_ob G (mm_h H_68) x 14 [.ref a_8, .ref a_17, .ref a_26, .ref a_34, .int (nI 0), .int (nI 0), .int (nI 0), .ref a_41, .ref a_49, .int (nI 0), .ref a_57, .ref a_66, .null, .int (nI 0), .int (nI 0), .int (nI 0), .int (nI 0), .int (nI 0), .int (nI 0), .int (nI 0), .int (nI 0), .int (nI 0), .null, .int (nI 0), .null, .int (nI 0), .null, .int (nI 0)] := hO
  have ha_8 := ha_8.kept (hq_68 _ ((Nat.ne_of_lt hgt_x_a_8).symm))
  have ha_17 := ha_17.kept (hq_68 _ ((Nat.ne_of_lt hgt_x_a_17).symm))
  have ha_26 := ha_26.kept (hq_68 _ ((Nat.ne_of_lt hgt_x_a_26).symm))
  have ha_34 := ha_34.kept (hq_68 _ ((Nat.ne_of_lt hgt_x_a_34).symm))
  have ha_41 := ha_41.kept (hq_68 _ ((Nat.ne_of_lt hgt_x_a_41).symm))
  have ha_49 := ha_49.kept (hq_68 _ ((Nat.ne_of_lt hgt_x_a_49).symm))
  have ha_57 := ha_57.kept (hq_68 _ ((Nat.ne_of_lt hgt_x_a_57).symm))
  have ha_66 := ha_66.kept (hq_68 _ ((Nat.ne_of_lt hgt_x_a_66).symm))
  refine lv_aload_n hx hb dX8_init_71 rfl (lv_at hl 0 rfl) ?_
  refine lv_sipush (v := nI 600) hx hb dX8_init_72 (by decide) ?_
  have hlt_x := hO.lt
  have hlt_a_8 := ha_8.lt
  have hlt_a_17 := ha_17.lt
  have hlt_a_26 := ha_26.lt
  have hlt_a_34 := ha_34.lt
  have hlt_a_41 := ha_41.lt
  have hlt_a_49 := ha_49.lt
  have hlt_a_57 := ha_57.lt
  have hlt_a_66 := ha_66.lt
  have hs1 := hS.1
  refine mm_newa 1 .byte rfl rfl (fun C z => by cases z) hx hb (hts _ q224) hKK hS (N := 600) (f := fun _ => .int 0) rfl (by decide) (by decide) (Nat.le_of_ble_eq_true rfl) (Nat.le_of_ble_eq_true rfl) dX8_init_75 (fun a_75 H_75 ea_75 ha_75 hz_75 hq_75 hS => ?_)
  have ha_75 : mm_ia G (mm_h H_75) a_75 1 600 (fun _ => 0) := ha_75
  have hO := hO.kept (hq_75 _ hO.lt)
  have ha_8 := ha_8.kept (hq_75 _ ha_8.lt)
  have ha_17 := ha_17.kept (hq_75 _ ha_17.lt)
  have ha_26 := ha_26.kept (hq_75 _ ha_26.lt)
  have ha_34 := ha_34.kept (hq_75 _ ha_34.lt)
  have ha_41 := ha_41.kept (hq_75 _ ha_41.lt)
  have ha_49 := ha_49.kept (hq_75 _ ha_49.lt)
  have ha_57 := ha_57.kept (hq_75 _ ha_57.lt)
  have ha_66 := ha_66.kept (hq_75 _ ha_66.lt)
  have hle_a_75 : H.size ≤ a_75 := by rw [ea_75]; exact hs1
  have hgt_x_a_75 : x < a_75 := by rw [ea_75]; exact hlt_x
  have hgt_a_8_a_75 : a_8 < a_75 := by rw [ea_75]; exact hlt_a_8
  have hgt_a_17_a_75 : a_17 < a_75 := by rw [ea_75]; exact hlt_a_17
  have hgt_a_26_a_75 : a_26 < a_75 := by rw [ea_75]; exact hlt_a_26
  have hgt_a_34_a_75 : a_34 < a_75 := by rw [ea_75]; exact hlt_a_34
  have hgt_a_41_a_75 : a_41 < a_75 := by rw [ea_75]; exact hlt_a_41
  have hgt_a_49_a_75 : a_49 < a_75 := by rw [ea_75]; exact hlt_a_49
  have hgt_a_57_a_75 : a_57 < a_75 := by rw [ea_75]; exact hlt_a_57
  have hgt_a_66_a_75 : a_66 < a_75 := by rw [ea_75]; exact hlt_a_66
  refine mm_putF (C := RX8) (T := TX8) (N := 28) (ci := 14) (v := .ref a_75) (ty := (.array .byte)) hx hb hts in_X8 tyX8 tyX8_ok nmX8 hown hKK hO hS (Or.inl rfl) rfl 12 (by decide) (hts _ q2510) (fun _ h9 => h9) rfl hnm rfl (by decide +kernel) (rfl) (rfl) (Nat.le_of_ble_eq_true rfl) dX8_init_77 (fun H_77 L_77 hO hz_77 hq_77 hS => ?_)
  have hO : mm_ob G (mm_h H_77) x 14 [.ref a_8, .ref a_17, .ref a_26, .ref a_34, .int (nI 0), .int (nI 0), .int (nI 0), .ref a_41, .ref a_49, .int (nI 0), .ref a_57, .ref a_66, .ref a_75, .int (nI 0), .int (nI 0), .int (nI 0), .int (nI 0), .int (nI 0), .int (nI 0), .int (nI 0), .int (nI 0), .int (nI 0), .null, .int (nI 0), .null, .int (nI 0), .null, .int (nI 0)] := hO
  have ha_8 := ha_8.kept (hq_77 _ ((Nat.ne_of_lt hgt_x_a_8).symm))
  have ha_17 := ha_17.kept (hq_77 _ ((Nat.ne_of_lt hgt_x_a_17).symm))
  have ha_26 := ha_26.kept (hq_77 _ ((Nat.ne_of_lt hgt_x_a_26).symm))
  have ha_34 := ha_34.kept (hq_77 _ ((Nat.ne_of_lt hgt_x_a_34).symm))
  have ha_41 := ha_41.kept (hq_77 _ ((Nat.ne_of_lt hgt_x_a_41).symm))
  have ha_49 := ha_49.kept (hq_77 _ ((Nat.ne_of_lt hgt_x_a_49).symm))
  have ha_57 := ha_57.kept (hq_77 _ ((Nat.ne_of_lt hgt_x_a_57).symm))
  have ha_66 := ha_66.kept (hq_77 _ ((Nat.ne_of_lt hgt_x_a_66).symm))
  have ha_75 := ha_75.kept (hq_77 _ ((Nat.ne_of_lt hgt_x_a_75).symm))
  refine lv_aload_n hx hb dX8_init_80 rfl (lv_at hl 0 rfl) ?_
  refine lv_iconst (v := (-1)) hx hb dX8_init_81 (by decide) ?_
  refine mm_put (C := RX8) (T := TX8) (N := 28) (ci := 14) (v := .int ((-1))) (ty := .int) hx hb hts in_X8 tyX8 tyX8_ok nmX8 hown hKK hO hS (Or.inl rfl) rfl 15 (by decide) (hts _ q2513) (fun _ h9 => h9) rfl  (by decide +kernel) (rfl) (rfl) (Nat.le_of_ble_eq_true rfl) dX8_init_82 (fun H_82 L_82 hO hz_82 hq_82 hS => ?_)
  have hO : mm_ob G (mm_h H_82) x 14 [.ref a_8, .ref a_17, .ref a_26, .ref a_34, .int (nI 0), .int (nI 0), .int (nI 0), .ref a_41, .ref a_49, .int (nI 0), .ref a_57, .ref a_66, .ref a_75, .int (nI 0), .int (nI 0), .int ((-1)), .int (nI 0), .int (nI 0), .int (nI 0), .int (nI 0), .int (nI 0), .int (nI 0), .null, .int (nI 0), .null, .int (nI 0), .null, .int (nI 0)] := hO
  have ha_8 := ha_8.kept (hq_82 _ ((Nat.ne_of_lt hgt_x_a_8).symm))
  have ha_17 := ha_17.kept (hq_82 _ ((Nat.ne_of_lt hgt_x_a_17).symm))
  have ha_26 := ha_26.kept (hq_82 _ ((Nat.ne_of_lt hgt_x_a_26).symm))
  have ha_34 := ha_34.kept (hq_82 _ ((Nat.ne_of_lt hgt_x_a_34).symm))
  have ha_41 := ha_41.kept (hq_82 _ ((Nat.ne_of_lt hgt_x_a_41).symm))
  have ha_49 := ha_49.kept (hq_82 _ ((Nat.ne_of_lt hgt_x_a_49).symm))
  have ha_57 := ha_57.kept (hq_82 _ ((Nat.ne_of_lt hgt_x_a_57).symm))
  have ha_66 := ha_66.kept (hq_82 _ ((Nat.ne_of_lt hgt_x_a_66).symm))
  have ha_75 := ha_75.kept (hq_82 _ ((Nat.ne_of_lt hgt_x_a_75).symm))
  refine lv_aload_n hx hb dX8_init_85 rfl (lv_at hl 0 rfl) ?_
  refine lv_bipush (v := nI 120) hx hb dX8_init_86 (by decide) ?_
  have hlt_x := hO.lt
  have hlt_a_8 := ha_8.lt
  have hlt_a_17 := ha_17.lt
  have hlt_a_26 := ha_26.lt
  have hlt_a_34 := ha_34.lt
  have hlt_a_41 := ha_41.lt
  have hlt_a_49 := ha_49.lt
  have hlt_a_57 := ha_57.lt
  have hlt_a_66 := ha_66.lt
  have hlt_a_75 := ha_75.lt
  have hs1 := hS.1
  refine mm_newa 0 .int rfl rfl (fun C z => by cases z) hx hb (hts _ q225) hKK hS (N := 120) (f := fun _ => .int 0) rfl (by decide) (by decide) (Nat.le_of_ble_eq_true rfl) (Nat.le_of_ble_eq_true rfl) dX8_init_88 (fun a_88 H_88 ea_88 ha_88 hz_88 hq_88 hS => ?_)
  have ha_88 : mm_ia G (mm_h H_88) a_88 0 120 (fun _ => 0) := ha_88
  have hO := hO.kept (hq_88 _ hO.lt)
  have ha_8 := ha_8.kept (hq_88 _ ha_8.lt)
  have ha_17 := ha_17.kept (hq_88 _ ha_17.lt)
  have ha_26 := ha_26.kept (hq_88 _ ha_26.lt)
  have ha_34 := ha_34.kept (hq_88 _ ha_34.lt)
  have ha_41 := ha_41.kept (hq_88 _ ha_41.lt)
  have ha_49 := ha_49.kept (hq_88 _ ha_49.lt)
  have ha_57 := ha_57.kept (hq_88 _ ha_57.lt)
  have ha_66 := ha_66.kept (hq_88 _ ha_66.lt)
  have ha_75 := ha_75.kept (hq_88 _ ha_75.lt)
  have hle_a_88 : H.size ≤ a_88 := by rw [ea_88]; exact hs1
  have hgt_x_a_88 : x < a_88 := by rw [ea_88]; exact hlt_x
  have hgt_a_8_a_88 : a_8 < a_88 := by rw [ea_88]; exact hlt_a_8
  have hgt_a_17_a_88 : a_17 < a_88 := by rw [ea_88]; exact hlt_a_17
  have hgt_a_26_a_88 : a_26 < a_88 := by rw [ea_88]; exact hlt_a_26
  have hgt_a_34_a_88 : a_34 < a_88 := by rw [ea_88]; exact hlt_a_34
  have hgt_a_41_a_88 : a_41 < a_88 := by rw [ea_88]; exact hlt_a_41
  have hgt_a_49_a_88 : a_49 < a_88 := by rw [ea_88]; exact hlt_a_49
  have hgt_a_57_a_88 : a_57 < a_88 := by rw [ea_88]; exact hlt_a_57
  have hgt_a_66_a_88 : a_66 < a_88 := by rw [ea_88]; exact hlt_a_66
  have hgt_a_75_a_88 : a_75 < a_88 := by rw [ea_88]; exact hlt_a_75
  refine mm_putF (C := RX8) (T := TX8) (N := 28) (ci := 14) (v := .ref a_88) (ty := (.array .int)) hx hb hts in_X8 tyX8 tyX8_ok nmX8 hown hKK hO hS (Or.inl rfl) rfl 22 (by decide) (hts _ q2520) (fun _ h9 => h9) rfl hnm rfl (by decide +kernel) (rfl) (rfl) (Nat.le_of_ble_eq_true rfl) dX8_init_90 (fun H_90 L_90 hO hz_90 hq_90 hS => ?_)
  have hO : mm_ob G (mm_h H_90) x 14 [.ref a_8, .ref a_17, .ref a_26, .ref a_34, .int (nI 0), .int (nI 0), .int (nI 0), .ref a_41, .ref a_49, .int (nI 0), .ref a_57, .ref a_66, .ref a_75, .int (nI 0), .int (nI 0), .int ((-1)), .int (nI 0), .int (nI 0), .int (nI 0), .int (nI 0), .int (nI 0), .int (nI 0), .ref a_88, .int (nI 0), .null, .int (nI 0), .null, .int (nI 0)] := hO
  have ha_8 := ha_8.kept (hq_90 _ ((Nat.ne_of_lt hgt_x_a_8).symm))
  have ha_17 := ha_17.kept (hq_90 _ ((Nat.ne_of_lt hgt_x_a_17).symm))
  have ha_26 := ha_26.kept (hq_90 _ ((Nat.ne_of_lt hgt_x_a_26).symm))
  have ha_34 := ha_34.kept (hq_90 _ ((Nat.ne_of_lt hgt_x_a_34).symm))
  have ha_41 := ha_41.kept (hq_90 _ ((Nat.ne_of_lt hgt_x_a_41).symm))
  have ha_49 := ha_49.kept (hq_90 _ ((Nat.ne_of_lt hgt_x_a_49).symm))
  have ha_57 := ha_57.kept (hq_90 _ ((Nat.ne_of_lt hgt_x_a_57).symm))
  have ha_66 := ha_66.kept (hq_90 _ ((Nat.ne_of_lt hgt_x_a_66).symm))
  have ha_75 := ha_75.kept (hq_90 _ ((Nat.ne_of_lt hgt_x_a_75).symm))
  have ha_88 := ha_88.kept (hq_90 _ ((Nat.ne_of_lt hgt_x_a_88).symm))
  refine lv_aload_n hx hb dX8_init_93 rfl (lv_at hl 0 rfl) ?_
  refine lv_bipush (v := nI 64) hx hb dX8_init_94 (by decide) ?_
  have hlt_x := hO.lt
  have hlt_a_8 := ha_8.lt
  have hlt_a_17 := ha_17.lt
  have hlt_a_26 := ha_26.lt
  have hlt_a_34 := ha_34.lt
  have hlt_a_41 := ha_41.lt
  have hlt_a_49 := ha_49.lt
  have hlt_a_57 := ha_57.lt
  have hlt_a_66 := ha_66.lt
  have hlt_a_75 := ha_75.lt
  have hlt_a_88 := ha_88.lt
  have hs1 := hS.1
  refine mm_newa 0 .int rfl rfl (fun C z => by cases z) hx hb (hts _ q225) hKK hS (N := 64) (f := fun _ => .int 0) rfl (by decide) (by decide) (Nat.le_of_ble_eq_true rfl) (Nat.le_of_ble_eq_true rfl) dX8_init_96 (fun a_96 H_96 ea_96 ha_96 hz_96 hq_96 hS => ?_)
  have ha_96 : mm_ia G (mm_h H_96) a_96 0 64 (fun _ => 0) := ha_96
  have hO := hO.kept (hq_96 _ hO.lt)
  have ha_8 := ha_8.kept (hq_96 _ ha_8.lt)
  have ha_17 := ha_17.kept (hq_96 _ ha_17.lt)
  have ha_26 := ha_26.kept (hq_96 _ ha_26.lt)
  have ha_34 := ha_34.kept (hq_96 _ ha_34.lt)
  have ha_41 := ha_41.kept (hq_96 _ ha_41.lt)
  have ha_49 := ha_49.kept (hq_96 _ ha_49.lt)
  have ha_57 := ha_57.kept (hq_96 _ ha_57.lt)
  have ha_66 := ha_66.kept (hq_96 _ ha_66.lt)
  have ha_75 := ha_75.kept (hq_96 _ ha_75.lt)
  have ha_88 := ha_88.kept (hq_96 _ ha_88.lt)
  have hle_a_96 : H.size ≤ a_96 := by rw [ea_96]; exact hs1
  have hgt_x_a_96 : x < a_96 := by rw [ea_96]; exact hlt_x
  have hgt_a_8_a_96 : a_8 < a_96 := by rw [ea_96]; exact hlt_a_8
  have hgt_a_17_a_96 : a_17 < a_96 := by rw [ea_96]; exact hlt_a_17
  have hgt_a_26_a_96 : a_26 < a_96 := by rw [ea_96]; exact hlt_a_26
  have hgt_a_34_a_96 : a_34 < a_96 := by rw [ea_96]; exact hlt_a_34
  have hgt_a_41_a_96 : a_41 < a_96 := by rw [ea_96]; exact hlt_a_41
  have hgt_a_49_a_96 : a_49 < a_96 := by rw [ea_96]; exact hlt_a_49
  have hgt_a_57_a_96 : a_57 < a_96 := by rw [ea_96]; exact hlt_a_57
  have hgt_a_66_a_96 : a_66 < a_96 := by rw [ea_96]; exact hlt_a_66
  have hgt_a_75_a_96 : a_75 < a_96 := by rw [ea_96]; exact hlt_a_75
  have hgt_a_88_a_96 : a_88 < a_96 := by rw [ea_96]; exact hlt_a_88
  refine mm_putF (C := RX8) (T := TX8) (N := 28) (ci := 14) (v := .ref a_96) (ty := (.array .int)) hx hb hts in_X8 tyX8 tyX8_ok nmX8 hown hKK hO hS (Or.inl rfl) rfl 24 (by decide) (hts _ q2522) (fun _ h9 => h9) rfl hnm rfl (by decide +kernel) (rfl) (rfl) (Nat.le_of_ble_eq_true rfl) dX8_init_98 (fun H_98 L_98 hO hz_98 hq_98 hS => ?_)
  have hO : mm_ob G (mm_h H_98) x 14 [.ref a_8, .ref a_17, .ref a_26, .ref a_34, .int (nI 0), .int (nI 0), .int (nI 0), .ref a_41, .ref a_49, .int (nI 0), .ref a_57, .ref a_66, .ref a_75, .int (nI 0), .int (nI 0), .int ((-1)), .int (nI 0), .int (nI 0), .int (nI 0), .int (nI 0), .int (nI 0), .int (nI 0), .ref a_88, .int (nI 0), .ref a_96, .int (nI 0), .null, .int (nI 0)] := hO
  have ha_8 := ha_8.kept (hq_98 _ ((Nat.ne_of_lt hgt_x_a_8).symm))
  have ha_17 := ha_17.kept (hq_98 _ ((Nat.ne_of_lt hgt_x_a_17).symm))
  have ha_26 := ha_26.kept (hq_98 _ ((Nat.ne_of_lt hgt_x_a_26).symm))
  have ha_34 := ha_34.kept (hq_98 _ ((Nat.ne_of_lt hgt_x_a_34).symm))
  have ha_41 := ha_41.kept (hq_98 _ ((Nat.ne_of_lt hgt_x_a_41).symm))
  have ha_49 := ha_49.kept (hq_98 _ ((Nat.ne_of_lt hgt_x_a_49).symm))
  have ha_57 := ha_57.kept (hq_98 _ ((Nat.ne_of_lt hgt_x_a_57).symm))
  have ha_66 := ha_66.kept (hq_98 _ ((Nat.ne_of_lt hgt_x_a_66).symm))
  have ha_75 := ha_75.kept (hq_98 _ ((Nat.ne_of_lt hgt_x_a_75).symm))
  have ha_88 := ha_88.kept (hq_98 _ ((Nat.ne_of_lt hgt_x_a_88).symm))
  have ha_96 := ha_96.kept (hq_98 _ ((Nat.ne_of_lt hgt_x_a_96).symm))
  refine lv_aload_n hx hb dX8_init_101 rfl (lv_at hl 0 rfl) ?_
  refine lv_sipush (v := nI 322) hx hb dX8_init_102 (by decide) ?_
  have hlt_x := hO.lt
  have hlt_a_8 := ha_8.lt
  have hlt_a_17 := ha_17.lt
  have hlt_a_26 := ha_26.lt
  have hlt_a_34 := ha_34.lt
  have hlt_a_41 := ha_41.lt
  have hlt_a_49 := ha_49.lt
  have hlt_a_57 := ha_57.lt
  have hlt_a_66 := ha_66.lt
  have hlt_a_75 := ha_75.lt
  have hlt_a_88 := ha_88.lt
  have hlt_a_96 := ha_96.lt
  have hs1 := hS.1
  refine mm_newa 1 .byte rfl rfl (fun C z => by cases z) hx hb (hts _ q224) hKK hS (N := 322) (f := fun _ => .int 0) rfl (by decide) (by decide) (Nat.le_of_ble_eq_true rfl) (Nat.le_of_ble_eq_true rfl) dX8_init_105 (fun a_105 H_105 ea_105 ha_105 hz_105 hq_105 hS => ?_)
  have ha_105 : mm_ia G (mm_h H_105) a_105 1 322 (fun _ => 0) := ha_105
  have hO := hO.kept (hq_105 _ hO.lt)
  have ha_8 := ha_8.kept (hq_105 _ ha_8.lt)
  have ha_17 := ha_17.kept (hq_105 _ ha_17.lt)
  have ha_26 := ha_26.kept (hq_105 _ ha_26.lt)
  have ha_34 := ha_34.kept (hq_105 _ ha_34.lt)
  have ha_41 := ha_41.kept (hq_105 _ ha_41.lt)
  have ha_49 := ha_49.kept (hq_105 _ ha_49.lt)
  have ha_57 := ha_57.kept (hq_105 _ ha_57.lt)
  have ha_66 := ha_66.kept (hq_105 _ ha_66.lt)
  have ha_75 := ha_75.kept (hq_105 _ ha_75.lt)
  have ha_88 := ha_88.kept (hq_105 _ ha_88.lt)
  have ha_96 := ha_96.kept (hq_105 _ ha_96.lt)
  have hle_a_105 : H.size ≤ a_105 := by rw [ea_105]; exact hs1
  have hgt_x_a_105 : x < a_105 := by rw [ea_105]; exact hlt_x
  have hgt_a_8_a_105 : a_8 < a_105 := by rw [ea_105]; exact hlt_a_8
  have hgt_a_17_a_105 : a_17 < a_105 := by rw [ea_105]; exact hlt_a_17
  have hgt_a_26_a_105 : a_26 < a_105 := by rw [ea_105]; exact hlt_a_26
  have hgt_a_34_a_105 : a_34 < a_105 := by rw [ea_105]; exact hlt_a_34
  have hgt_a_41_a_105 : a_41 < a_105 := by rw [ea_105]; exact hlt_a_41
  have hgt_a_49_a_105 : a_49 < a_105 := by rw [ea_105]; exact hlt_a_49
  have hgt_a_57_a_105 : a_57 < a_105 := by rw [ea_105]; exact hlt_a_57
  have hgt_a_66_a_105 : a_66 < a_105 := by rw [ea_105]; exact hlt_a_66
  have hgt_a_75_a_105 : a_75 < a_105 := by rw [ea_105]; exact hlt_a_75
  have hgt_a_88_a_105 : a_88 < a_105 := by rw [ea_105]; exact hlt_a_88
  have hgt_a_96_a_105 : a_96 < a_105 := by rw [ea_105]; exact hlt_a_96
  refine mm_putF (C := RX8) (T := TX8) (N := 28) (ci := 14) (v := .ref a_105) (ty := (.array .byte)) hx hb hts in_X8 tyX8 tyX8_ok nmX8 hown hKK hO hS (Or.inl rfl) rfl 26 (by decide) (hts _ q2524) (fun _ h9 => h9) rfl hnm rfl (by decide +kernel) (rfl) (rfl) (Nat.le_of_ble_eq_true rfl) dX8_init_107 (fun H_107 L_107 hO hz_107 hq_107 hS => ?_)
  have hO : mm_ob G (mm_h H_107) x 14 [.ref a_8, .ref a_17, .ref a_26, .ref a_34, .int (nI 0), .int (nI 0), .int (nI 0), .ref a_41, .ref a_49, .int (nI 0), .ref a_57, .ref a_66, .ref a_75, .int (nI 0), .int (nI 0), .int ((-1)), .int (nI 0), .int (nI 0), .int (nI 0), .int (nI 0), .int (nI 0), .int (nI 0), .ref a_88, .int (nI 0), .ref a_96, .int (nI 0), .ref a_105, .int (nI 0)] := hO
  have ha_8 := ha_8.kept (hq_107 _ ((Nat.ne_of_lt hgt_x_a_8).symm))
  have ha_17 := ha_17.kept (hq_107 _ ((Nat.ne_of_lt hgt_x_a_17).symm))
  have ha_26 := ha_26.kept (hq_107 _ ((Nat.ne_of_lt hgt_x_a_26).symm))
  have ha_34 := ha_34.kept (hq_107 _ ((Nat.ne_of_lt hgt_x_a_34).symm))
  have ha_41 := ha_41.kept (hq_107 _ ((Nat.ne_of_lt hgt_x_a_41).symm))
  have ha_49 := ha_49.kept (hq_107 _ ((Nat.ne_of_lt hgt_x_a_49).symm))
  have ha_57 := ha_57.kept (hq_107 _ ((Nat.ne_of_lt hgt_x_a_57).symm))
  have ha_66 := ha_66.kept (hq_107 _ ((Nat.ne_of_lt hgt_x_a_66).symm))
  have ha_75 := ha_75.kept (hq_107 _ ((Nat.ne_of_lt hgt_x_a_75).symm))
  have ha_88 := ha_88.kept (hq_107 _ ((Nat.ne_of_lt hgt_x_a_88).symm))
  have ha_96 := ha_96.kept (hq_107 _ ((Nat.ne_of_lt hgt_x_a_96).symm))
  have ha_105 := ha_105.kept (hq_107 _ ((Nat.ne_of_lt hgt_x_a_105).symm))
  refine lv_bipush (v := nI 10) hx hb dX8_init_110 (by decide) ?_
  have hlt_x := hO.lt
  have hlt_a_8 := ha_8.lt
  have hlt_a_17 := ha_17.lt
  have hlt_a_26 := ha_26.lt
  have hlt_a_34 := ha_34.lt
  have hlt_a_41 := ha_41.lt
  have hlt_a_49 := ha_49.lt
  have hlt_a_57 := ha_57.lt
  have hlt_a_66 := ha_66.lt
  have hlt_a_75 := ha_75.lt
  have hlt_a_88 := ha_88.lt
  have hlt_a_96 := ha_96.lt
  have hlt_a_105 := ha_105.lt
  have hs1 := hS.1
  refine mm_newa 0 .int rfl rfl (fun C z => by cases z) hx hb (hts _ q225) hKK hS (N := 10) (f := fun _ => .int 0) rfl (by decide) (by decide) (Nat.le_of_ble_eq_true rfl) (Nat.le_of_ble_eq_true rfl) dX8_init_112 (fun a_112 H_112 ea_112 ha_112 hz_112 hq_112 hS => ?_)
  have ha_112 : mm_ia G (mm_h H_112) a_112 0 10 (fun _ => 0) := ha_112
  have hO := hO.kept (hq_112 _ hO.lt)
  have ha_8 := ha_8.kept (hq_112 _ ha_8.lt)
  have ha_17 := ha_17.kept (hq_112 _ ha_17.lt)
  have ha_26 := ha_26.kept (hq_112 _ ha_26.lt)
  have ha_34 := ha_34.kept (hq_112 _ ha_34.lt)
  have ha_41 := ha_41.kept (hq_112 _ ha_41.lt)
  have ha_49 := ha_49.kept (hq_112 _ ha_49.lt)
  have ha_57 := ha_57.kept (hq_112 _ ha_57.lt)
  have ha_66 := ha_66.kept (hq_112 _ ha_66.lt)
  have ha_75 := ha_75.kept (hq_112 _ ha_75.lt)
  have ha_88 := ha_88.kept (hq_112 _ ha_88.lt)
  have ha_96 := ha_96.kept (hq_112 _ ha_96.lt)
  have ha_105 := ha_105.kept (hq_112 _ ha_105.lt)
  have hle_a_112 : H.size ≤ a_112 := by rw [ea_112]; exact hs1
  have hgt_x_a_112 : x < a_112 := by rw [ea_112]; exact hlt_x
  have hgt_a_8_a_112 : a_8 < a_112 := by rw [ea_112]; exact hlt_a_8
  have hgt_a_17_a_112 : a_17 < a_112 := by rw [ea_112]; exact hlt_a_17
  have hgt_a_26_a_112 : a_26 < a_112 := by rw [ea_112]; exact hlt_a_26
  have hgt_a_34_a_112 : a_34 < a_112 := by rw [ea_112]; exact hlt_a_34
  have hgt_a_41_a_112 : a_41 < a_112 := by rw [ea_112]; exact hlt_a_41
  have hgt_a_49_a_112 : a_49 < a_112 := by rw [ea_112]; exact hlt_a_49
  have hgt_a_57_a_112 : a_57 < a_112 := by rw [ea_112]; exact hlt_a_57
  have hgt_a_66_a_112 : a_66 < a_112 := by rw [ea_112]; exact hlt_a_66
  have hgt_a_75_a_112 : a_75 < a_112 := by rw [ea_112]; exact hlt_a_75
  have hgt_a_88_a_112 : a_88 < a_112 := by rw [ea_112]; exact hlt_a_88
  have hgt_a_96_a_112 : a_96 < a_112 := by rw [ea_112]; exact hlt_a_96
  have hgt_a_105_a_112 : a_105 < a_112 := by rw [ea_112]; exact hlt_a_105
  refine lv_dup hx hb dX8_init_114 rfl ?_
  refine lv_iconst (v := nI 0) hx hb dX8_init_115 (by decide) ?_
  refine lv_iconst (v := nI 5) hx hb dX8_init_116 (by decide) ?_
  refine mm_iast (k := 0) hx hb hKK ha_112 hS (Or.inr hle_a_112) (by omega) (by decide) dX8_init_117 (fun H_117 L_117 ha_112 hz_117 hq_117 hS => ?_)
  have hO := hO.kept (hq_117 _ ((Nat.ne_of_lt hgt_x_a_112)))
  have ha_8 := ha_8.kept (hq_117 _ ((Nat.ne_of_lt hgt_a_8_a_112)))
  have ha_17 := ha_17.kept (hq_117 _ ((Nat.ne_of_lt hgt_a_17_a_112)))
  have ha_26 := ha_26.kept (hq_117 _ ((Nat.ne_of_lt hgt_a_26_a_112)))
  have ha_34 := ha_34.kept (hq_117 _ ((Nat.ne_of_lt hgt_a_34_a_112)))
  have ha_41 := ha_41.kept (hq_117 _ ((Nat.ne_of_lt hgt_a_41_a_112)))
  have ha_49 := ha_49.kept (hq_117 _ ((Nat.ne_of_lt hgt_a_49_a_112)))
  have ha_57 := ha_57.kept (hq_117 _ ((Nat.ne_of_lt hgt_a_57_a_112)))
  have ha_66 := ha_66.kept (hq_117 _ ((Nat.ne_of_lt hgt_a_66_a_112)))
  have ha_75 := ha_75.kept (hq_117 _ ((Nat.ne_of_lt hgt_a_75_a_112)))
  have ha_88 := ha_88.kept (hq_117 _ ((Nat.ne_of_lt hgt_a_88_a_112)))
  have ha_96 := ha_96.kept (hq_117 _ ((Nat.ne_of_lt hgt_a_96_a_112)))
  have ha_105 := ha_105.kept (hq_117 _ ((Nat.ne_of_lt hgt_a_105_a_112)))
  refine lv_dup hx hb dX8_init_118 rfl ?_
  refine lv_iconst (v := nI 1) hx hb dX8_init_119 (by decide) ?_
  refine lv_bipush (v := (-2)) hx hb dX8_init_120 (by decide) ?_
  refine mm_iast (k := 1) hx hb hKK ha_112 hS (Or.inr hle_a_112) (by omega) (by decide) dX8_init_122 (fun H_122 L_122 ha_112 hz_122 hq_122 hS => ?_)
  have hO := hO.kept (hq_122 _ ((Nat.ne_of_lt hgt_x_a_112)))
  have ha_8 := ha_8.kept (hq_122 _ ((Nat.ne_of_lt hgt_a_8_a_112)))
  have ha_17 := ha_17.kept (hq_122 _ ((Nat.ne_of_lt hgt_a_17_a_112)))
  have ha_26 := ha_26.kept (hq_122 _ ((Nat.ne_of_lt hgt_a_26_a_112)))
  have ha_34 := ha_34.kept (hq_122 _ ((Nat.ne_of_lt hgt_a_34_a_112)))
  have ha_41 := ha_41.kept (hq_122 _ ((Nat.ne_of_lt hgt_a_41_a_112)))
  have ha_49 := ha_49.kept (hq_122 _ ((Nat.ne_of_lt hgt_a_49_a_112)))
  have ha_57 := ha_57.kept (hq_122 _ ((Nat.ne_of_lt hgt_a_57_a_112)))
  have ha_66 := ha_66.kept (hq_122 _ ((Nat.ne_of_lt hgt_a_66_a_112)))
  have ha_75 := ha_75.kept (hq_122 _ ((Nat.ne_of_lt hgt_a_75_a_112)))
  have ha_88 := ha_88.kept (hq_122 _ ((Nat.ne_of_lt hgt_a_88_a_112)))
  have ha_96 := ha_96.kept (hq_122 _ ((Nat.ne_of_lt hgt_a_96_a_112)))
  have ha_105 := ha_105.kept (hq_122 _ ((Nat.ne_of_lt hgt_a_105_a_112)))
  refine lv_dup hx hb dX8_init_123 rfl ?_
  refine lv_iconst (v := nI 2) hx hb dX8_init_124 (by decide) ?_
  refine lv_bipush (v := nI 7) hx hb dX8_init_125 (by decide) ?_
  refine mm_iast (k := 2) hx hb hKK ha_112 hS (Or.inr hle_a_112) (by omega) (by decide) dX8_init_127 (fun H_127 L_127 ha_112 hz_127 hq_127 hS => ?_)
  have hO := hO.kept (hq_127 _ ((Nat.ne_of_lt hgt_x_a_112)))
  have ha_8 := ha_8.kept (hq_127 _ ((Nat.ne_of_lt hgt_a_8_a_112)))
  have ha_17 := ha_17.kept (hq_127 _ ((Nat.ne_of_lt hgt_a_17_a_112)))
  have ha_26 := ha_26.kept (hq_127 _ ((Nat.ne_of_lt hgt_a_26_a_112)))
  have ha_34 := ha_34.kept (hq_127 _ ((Nat.ne_of_lt hgt_a_34_a_112)))
  have ha_41 := ha_41.kept (hq_127 _ ((Nat.ne_of_lt hgt_a_41_a_112)))
  have ha_49 := ha_49.kept (hq_127 _ ((Nat.ne_of_lt hgt_a_49_a_112)))
  have ha_57 := ha_57.kept (hq_127 _ ((Nat.ne_of_lt hgt_a_57_a_112)))
  have ha_66 := ha_66.kept (hq_127 _ ((Nat.ne_of_lt hgt_a_66_a_112)))
  have ha_75 := ha_75.kept (hq_127 _ ((Nat.ne_of_lt hgt_a_75_a_112)))
  have ha_88 := ha_88.kept (hq_127 _ ((Nat.ne_of_lt hgt_a_88_a_112)))
  have ha_96 := ha_96.kept (hq_127 _ ((Nat.ne_of_lt hgt_a_96_a_112)))
  have ha_105 := ha_105.kept (hq_127 _ ((Nat.ne_of_lt hgt_a_105_a_112)))
  refine lv_dup hx hb dX8_init_128 rfl ?_
  refine lv_iconst (v := nI 3) hx hb dX8_init_129 (by decide) ?_
  refine lv_bipush (v := nI 7) hx hb dX8_init_130 (by decide) ?_
  refine mm_iast (k := 3) hx hb hKK ha_112 hS (Or.inr hle_a_112) (by omega) (by decide) dX8_init_132 (fun H_132 L_132 ha_112 hz_132 hq_132 hS => ?_)
  have hO := hO.kept (hq_132 _ ((Nat.ne_of_lt hgt_x_a_112)))
  have ha_8 := ha_8.kept (hq_132 _ ((Nat.ne_of_lt hgt_a_8_a_112)))
  have ha_17 := ha_17.kept (hq_132 _ ((Nat.ne_of_lt hgt_a_17_a_112)))
  have ha_26 := ha_26.kept (hq_132 _ ((Nat.ne_of_lt hgt_a_26_a_112)))
  have ha_34 := ha_34.kept (hq_132 _ ((Nat.ne_of_lt hgt_a_34_a_112)))
  have ha_41 := ha_41.kept (hq_132 _ ((Nat.ne_of_lt hgt_a_41_a_112)))
  have ha_49 := ha_49.kept (hq_132 _ ((Nat.ne_of_lt hgt_a_49_a_112)))
  have ha_57 := ha_57.kept (hq_132 _ ((Nat.ne_of_lt hgt_a_57_a_112)))
  have ha_66 := ha_66.kept (hq_132 _ ((Nat.ne_of_lt hgt_a_66_a_112)))
  have ha_75 := ha_75.kept (hq_132 _ ((Nat.ne_of_lt hgt_a_75_a_112)))
  have ha_88 := ha_88.kept (hq_132 _ ((Nat.ne_of_lt hgt_a_88_a_112)))
  have ha_96 := ha_96.kept (hq_132 _ ((Nat.ne_of_lt hgt_a_96_a_112)))
  have ha_105 := ha_105.kept (hq_132 _ ((Nat.ne_of_lt hgt_a_105_a_112)))
  refine lv_dup hx hb dX8_init_133 rfl ?_
  refine lv_iconst (v := nI 4) hx hb dX8_init_134 (by decide) ?_
  refine lv_iconst (v := nI 0) hx hb dX8_init_135 (by decide) ?_
  refine mm_iast (k := 4) hx hb hKK ha_112 hS (Or.inr hle_a_112) (by omega) (by decide) dX8_init_136 (fun H_136 L_136 ha_112 hz_136 hq_136 hS => ?_)
  have hO := hO.kept (hq_136 _ ((Nat.ne_of_lt hgt_x_a_112)))
  have ha_8 := ha_8.kept (hq_136 _ ((Nat.ne_of_lt hgt_a_8_a_112)))
  have ha_17 := ha_17.kept (hq_136 _ ((Nat.ne_of_lt hgt_a_17_a_112)))
  have ha_26 := ha_26.kept (hq_136 _ ((Nat.ne_of_lt hgt_a_26_a_112)))
  have ha_34 := ha_34.kept (hq_136 _ ((Nat.ne_of_lt hgt_a_34_a_112)))
  have ha_41 := ha_41.kept (hq_136 _ ((Nat.ne_of_lt hgt_a_41_a_112)))
  have ha_49 := ha_49.kept (hq_136 _ ((Nat.ne_of_lt hgt_a_49_a_112)))
  have ha_57 := ha_57.kept (hq_136 _ ((Nat.ne_of_lt hgt_a_57_a_112)))
  have ha_66 := ha_66.kept (hq_136 _ ((Nat.ne_of_lt hgt_a_66_a_112)))
  have ha_75 := ha_75.kept (hq_136 _ ((Nat.ne_of_lt hgt_a_75_a_112)))
  have ha_88 := ha_88.kept (hq_136 _ ((Nat.ne_of_lt hgt_a_88_a_112)))
  have ha_96 := ha_96.kept (hq_136 _ ((Nat.ne_of_lt hgt_a_96_a_112)))
  have ha_105 := ha_105.kept (hq_136 _ ((Nat.ne_of_lt hgt_a_105_a_112)))
  refine lv_dup hx hb dX8_init_137 rfl ?_
  refine lv_iconst (v := nI 5) hx hb dX8_init_138 (by decide) ?_
  refine lv_bipush (v := nI 12) hx hb dX8_init_139 (by decide) ?_
  refine mm_iast (k := 5) hx hb hKK ha_112 hS (Or.inr hle_a_112) (by omega) (by decide) dX8_init_141 (fun H_141 L_141 ha_112 hz_141 hq_141 hS => ?_)
  have hO := hO.kept (hq_141 _ ((Nat.ne_of_lt hgt_x_a_112)))
  have ha_8 := ha_8.kept (hq_141 _ ((Nat.ne_of_lt hgt_a_8_a_112)))
  have ha_17 := ha_17.kept (hq_141 _ ((Nat.ne_of_lt hgt_a_17_a_112)))
  have ha_26 := ha_26.kept (hq_141 _ ((Nat.ne_of_lt hgt_a_26_a_112)))
  have ha_34 := ha_34.kept (hq_141 _ ((Nat.ne_of_lt hgt_a_34_a_112)))
  have ha_41 := ha_41.kept (hq_141 _ ((Nat.ne_of_lt hgt_a_41_a_112)))
  have ha_49 := ha_49.kept (hq_141 _ ((Nat.ne_of_lt hgt_a_49_a_112)))
  have ha_57 := ha_57.kept (hq_141 _ ((Nat.ne_of_lt hgt_a_57_a_112)))
  have ha_66 := ha_66.kept (hq_141 _ ((Nat.ne_of_lt hgt_a_66_a_112)))
  have ha_75 := ha_75.kept (hq_141 _ ((Nat.ne_of_lt hgt_a_75_a_112)))
  have ha_88 := ha_88.kept (hq_141 _ ((Nat.ne_of_lt hgt_a_88_a_112)))
  have ha_96 := ha_96.kept (hq_141 _ ((Nat.ne_of_lt hgt_a_96_a_112)))
  have ha_105 := ha_105.kept (hq_141 _ ((Nat.ne_of_lt hgt_a_105_a_112)))
  refine lv_dup hx hb dX8_init_142 rfl ?_
  refine lv_bipush (v := nI 6) hx hb dX8_init_143 (by decide) ?_
  refine lv_iconst (v := nI 3) hx hb dX8_init_145 (by decide) ?_
  refine mm_iast (k := 6) hx hb hKK ha_112 hS (Or.inr hle_a_112) (by omega) (by decide) dX8_init_146 (fun H_146 L_146 ha_112 hz_146 hq_146 hS => ?_)
  have hO := hO.kept (hq_146 _ ((Nat.ne_of_lt hgt_x_a_112)))
  have ha_8 := ha_8.kept (hq_146 _ ((Nat.ne_of_lt hgt_a_8_a_112)))
  have ha_17 := ha_17.kept (hq_146 _ ((Nat.ne_of_lt hgt_a_17_a_112)))
  have ha_26 := ha_26.kept (hq_146 _ ((Nat.ne_of_lt hgt_a_26_a_112)))
  have ha_34 := ha_34.kept (hq_146 _ ((Nat.ne_of_lt hgt_a_34_a_112)))
  have ha_41 := ha_41.kept (hq_146 _ ((Nat.ne_of_lt hgt_a_41_a_112)))
  have ha_49 := ha_49.kept (hq_146 _ ((Nat.ne_of_lt hgt_a_49_a_112)))
  have ha_57 := ha_57.kept (hq_146 _ ((Nat.ne_of_lt hgt_a_57_a_112)))
  have ha_66 := ha_66.kept (hq_146 _ ((Nat.ne_of_lt hgt_a_66_a_112)))
  have ha_75 := ha_75.kept (hq_146 _ ((Nat.ne_of_lt hgt_a_75_a_112)))
  have ha_88 := ha_88.kept (hq_146 _ ((Nat.ne_of_lt hgt_a_88_a_112)))
  have ha_96 := ha_96.kept (hq_146 _ ((Nat.ne_of_lt hgt_a_96_a_112)))
  have ha_105 := ha_105.kept (hq_146 _ ((Nat.ne_of_lt hgt_a_105_a_112)))
  refine lv_dup hx hb dX8_init_147 rfl ?_
  refine lv_bipush (v := nI 7) hx hb dX8_init_148 (by decide) ?_
  refine lv_iconst (v := nI 1) hx hb dX8_init_150 (by decide) ?_
  refine mm_iast (k := 7) hx hb hKK ha_112 hS (Or.inr hle_a_112) (by omega) (by decide) dX8_init_151 (fun H_151 L_151 ha_112 hz_151 hq_151 hS => ?_)
  have hO := hO.kept (hq_151 _ ((Nat.ne_of_lt hgt_x_a_112)))
  have ha_8 := ha_8.kept (hq_151 _ ((Nat.ne_of_lt hgt_a_8_a_112)))
  have ha_17 := ha_17.kept (hq_151 _ ((Nat.ne_of_lt hgt_a_17_a_112)))
  have ha_26 := ha_26.kept (hq_151 _ ((Nat.ne_of_lt hgt_a_26_a_112)))
  have ha_34 := ha_34.kept (hq_151 _ ((Nat.ne_of_lt hgt_a_34_a_112)))
  have ha_41 := ha_41.kept (hq_151 _ ((Nat.ne_of_lt hgt_a_41_a_112)))
  have ha_49 := ha_49.kept (hq_151 _ ((Nat.ne_of_lt hgt_a_49_a_112)))
  have ha_57 := ha_57.kept (hq_151 _ ((Nat.ne_of_lt hgt_a_57_a_112)))
  have ha_66 := ha_66.kept (hq_151 _ ((Nat.ne_of_lt hgt_a_66_a_112)))
  have ha_75 := ha_75.kept (hq_151 _ ((Nat.ne_of_lt hgt_a_75_a_112)))
  have ha_88 := ha_88.kept (hq_151 _ ((Nat.ne_of_lt hgt_a_88_a_112)))
  have ha_96 := ha_96.kept (hq_151 _ ((Nat.ne_of_lt hgt_a_96_a_112)))
  have ha_105 := ha_105.kept (hq_151 _ ((Nat.ne_of_lt hgt_a_105_a_112)))
  refine lv_dup hx hb dX8_init_152 rfl ?_
  refine lv_bipush (v := nI 8) hx hb dX8_init_153 (by decide) ?_
  refine lv_bipush (v := nI 9) hx hb dX8_init_155 (by decide) ?_
  refine mm_iast (k := 8) hx hb hKK ha_112 hS (Or.inr hle_a_112) (by omega) (by decide) dX8_init_157 (fun H_157 L_157 ha_112 hz_157 hq_157 hS => ?_)
  have hO := hO.kept (hq_157 _ ((Nat.ne_of_lt hgt_x_a_112)))
  have ha_8 := ha_8.kept (hq_157 _ ((Nat.ne_of_lt hgt_a_8_a_112)))
  have ha_17 := ha_17.kept (hq_157 _ ((Nat.ne_of_lt hgt_a_17_a_112)))
  have ha_26 := ha_26.kept (hq_157 _ ((Nat.ne_of_lt hgt_a_26_a_112)))
  have ha_34 := ha_34.kept (hq_157 _ ((Nat.ne_of_lt hgt_a_34_a_112)))
  have ha_41 := ha_41.kept (hq_157 _ ((Nat.ne_of_lt hgt_a_41_a_112)))
  have ha_49 := ha_49.kept (hq_157 _ ((Nat.ne_of_lt hgt_a_49_a_112)))
  have ha_57 := ha_57.kept (hq_157 _ ((Nat.ne_of_lt hgt_a_57_a_112)))
  have ha_66 := ha_66.kept (hq_157 _ ((Nat.ne_of_lt hgt_a_66_a_112)))
  have ha_75 := ha_75.kept (hq_157 _ ((Nat.ne_of_lt hgt_a_75_a_112)))
  have ha_88 := ha_88.kept (hq_157 _ ((Nat.ne_of_lt hgt_a_88_a_112)))
  have ha_96 := ha_96.kept (hq_157 _ ((Nat.ne_of_lt hgt_a_96_a_112)))
  have ha_105 := ha_105.kept (hq_157 _ ((Nat.ne_of_lt hgt_a_105_a_112)))
  refine lv_dup hx hb dX8_init_158 rfl ?_
  refine lv_bipush (v := nI 9) hx hb dX8_init_159 (by decide) ?_
  refine lv_iconst (v := nI 4) hx hb dX8_init_161 (by decide) ?_
  refine mm_iast (k := 9) hx hb hKK ha_112 hS (Or.inr hle_a_112) (by omega) (by decide) dX8_init_162 (fun H_162 L_162 ha_112 hz_162 hq_162 hS => ?_)
  have hO := hO.kept (hq_162 _ ((Nat.ne_of_lt hgt_x_a_112)))
  have ha_8 := ha_8.kept (hq_162 _ ((Nat.ne_of_lt hgt_a_8_a_112)))
  have ha_17 := ha_17.kept (hq_162 _ ((Nat.ne_of_lt hgt_a_17_a_112)))
  have ha_26 := ha_26.kept (hq_162 _ ((Nat.ne_of_lt hgt_a_26_a_112)))
  have ha_34 := ha_34.kept (hq_162 _ ((Nat.ne_of_lt hgt_a_34_a_112)))
  have ha_41 := ha_41.kept (hq_162 _ ((Nat.ne_of_lt hgt_a_41_a_112)))
  have ha_49 := ha_49.kept (hq_162 _ ((Nat.ne_of_lt hgt_a_49_a_112)))
  have ha_57 := ha_57.kept (hq_162 _ ((Nat.ne_of_lt hgt_a_57_a_112)))
  have ha_66 := ha_66.kept (hq_162 _ ((Nat.ne_of_lt hgt_a_66_a_112)))
  have ha_75 := ha_75.kept (hq_162 _ ((Nat.ne_of_lt hgt_a_75_a_112)))
  have ha_88 := ha_88.kept (hq_162 _ ((Nat.ne_of_lt hgt_a_88_a_112)))
  have ha_96 := ha_96.kept (hq_162 _ ((Nat.ne_of_lt hgt_a_96_a_112)))
  have ha_105 := ha_105.kept (hq_162 _ ((Nat.ne_of_lt hgt_a_105_a_112)))
  refine lv_astore_n (lv' := [(1, .ref a_112), (0, .ref x)]) hx hb dX8_init_163 rfl hl (by decide) rfl (fun ls hl => ?_)
  refine lv_iconst (v := nI 0) hx hb dX8_init_164 (by decide) ?_
  refine lv_istore_n (lv' := [(2, .int (nI 0)), (1, .ref a_112), (0, .ref x)]) hx hb dX8_init_165 rfl hl (by decide) rfl (fun ls hl => ?_)
  show W p l e (mm_rm 12 600 13 47758) s m ([.ref x] : List Value).toArray below meth c H_162 L_162 13 47758 (MQ below (mm_Qc H (fun q => q = x) (mm_v (fun H2 => ∃ ad I F, TW G x ad I F H2 ∧ (∀ k, tw_isA k = true → H.size ≤ ad k) ∧ (I 4 = nI 0 ∧ I 5 = nI 0 ∧ I 6 = nI 0 ∧ I 13 = nI 0 ∧ I 14 = nI 0 ∧ I 15 = -1 ∧ I 27 = nI 0) ∧ TR (F 0) (begS 10 ev0)))) ([.ref x] : List Value).toArray s 13 47758 (mm_A (fun q => q = x) H)) (F0 m 166 ls [])
  refine lv_iload_n hx hb dX8_init_166 rfl (lv_at hl 0 rfl) ?_
  refine lv_aload_n hx hb dX8_init_167 rfl (lv_at hl 1 rfl) ?_
  refine mm_alen hx hb hKK 0 rfl ha_112 mm_le.rf dX8_init_168 ?_
  refine mm_icmp_ge (tgt := 187) (by omega) (by omega) hx hb dX8_init_169 (by decide) (fun c_169 => ?_) (fun c_169 => ?_)
  · exact absurd c_169 (by decide)
  · refine lv_aload_n hx hb dX8_init_172 rfl (lv_at hl 2 rfl) ?_
    refine mm_get (C := RX8) (T := TX8) (N := 28) (ci := 14) (v := .ref a_49) hx hb hts in_X8 hown hKK (mm_ob.rb hO) mm_le.rf rfl 8 (by decide) (hts _ q2506) (fun _ h9 => h9) rfl dX8_init_173 ?_
    refine lv_iload_n hx hb dX8_init_176 rfl (lv_at hl 0 rfl) ?_
    refine lv_aload_n hx hb dX8_init_177 rfl (lv_at hl 1 rfl) ?_
    refine lv_iload_n hx hb dX8_init_178 rfl (lv_at hl 0 rfl) ?_
    refine mm_iald (k := 0) hx hb hKK ha_112 mm_le.rf (by omega) (by decide) dX8_init_179 ?_
    refine mm_top (y := nI 5) (rfl) ?_
    refine mm_iast (k := 0) hx hb hKK ha_49 hS (Or.inr hle_a_49) (by omega) (by decide) dX8_init_180 (fun H_180 L_180 ha_49 hz_180 hq_180 hS => ?_)
    have hO := hO.kept (hq_180 _ ((Nat.ne_of_lt hgt_x_a_49)))
    have ha_8 := ha_8.kept (hq_180 _ ((Nat.ne_of_lt hgt_a_8_a_49)))
    have ha_17 := ha_17.kept (hq_180 _ ((Nat.ne_of_lt hgt_a_17_a_49)))
    have ha_26 := ha_26.kept (hq_180 _ ((Nat.ne_of_lt hgt_a_26_a_49)))
    have ha_34 := ha_34.kept (hq_180 _ ((Nat.ne_of_lt hgt_a_34_a_49)))
    have ha_41 := ha_41.kept (hq_180 _ ((Nat.ne_of_lt hgt_a_41_a_49)))
    have ha_57 := ha_57.kept (hq_180 _ ((Nat.ne_of_lt hgt_a_49_a_57).symm))
    have ha_66 := ha_66.kept (hq_180 _ ((Nat.ne_of_lt hgt_a_49_a_66).symm))
    have ha_75 := ha_75.kept (hq_180 _ ((Nat.ne_of_lt hgt_a_49_a_75).symm))
    have ha_88 := ha_88.kept (hq_180 _ ((Nat.ne_of_lt hgt_a_49_a_88).symm))
    have ha_96 := ha_96.kept (hq_180 _ ((Nat.ne_of_lt hgt_a_49_a_96).symm))
    have ha_105 := ha_105.kept (hq_180 _ ((Nat.ne_of_lt hgt_a_49_a_105).symm))
    have ha_112 := ha_112.kept (hq_180 _ ((Nat.ne_of_lt hgt_a_49_a_112).symm))
    refine lv_iinc (v := nI 1) (lv' := [(2, .int (nI 1)), (1, .ref a_112), (0, .ref x)]) hx hb dX8_init_181 hl (k := 0) rfl (nI_add _ _) (by decide) rfl (fun ls hl => ?_)
    refine lv_goto (tgt := 166) hx hb dX8_init_184 (by decide) ?_
    refine lv_iload_n hx hb dX8_init_166 rfl (lv_at hl 0 rfl) ?_
    refine lv_aload_n hx hb dX8_init_167 rfl (lv_at hl 1 rfl) ?_
    refine mm_alen hx hb hKK 0 rfl ha_112 mm_le.rf dX8_init_168 ?_
    refine mm_icmp_ge (tgt := 187) (by omega) (by omega) hx hb dX8_init_169 (by decide) (fun c_169 => ?_) (fun c_169 => ?_)
    · exact absurd c_169 (by decide)
    · refine lv_aload_n hx hb dX8_init_172 rfl (lv_at hl 2 rfl) ?_
      refine mm_get (C := RX8) (T := TX8) (N := 28) (ci := 14) (v := .ref a_49) hx hb hts in_X8 hown hKK (mm_ob.rb hO) mm_le.rf rfl 8 (by decide) (hts _ q2506) (fun _ h9 => h9) rfl dX8_init_173 ?_
      refine lv_iload_n hx hb dX8_init_176 rfl (lv_at hl 0 rfl) ?_
      refine lv_aload_n hx hb dX8_init_177 rfl (lv_at hl 1 rfl) ?_
      refine lv_iload_n hx hb dX8_init_178 rfl (lv_at hl 0 rfl) ?_
      refine mm_iald (k := 1) hx hb hKK ha_112 mm_le.rf (by omega) (by decide) dX8_init_179 ?_
      refine mm_top (y := (-2)) (rfl) ?_
      refine mm_iast (k := 1) hx hb hKK ha_49 hS (Or.inr hle_a_49) (by omega) (by decide) dX8_init_180 (fun H_180 L_180 ha_49 hz_180 hq_180 hS => ?_)
      have hO := hO.kept (hq_180 _ ((Nat.ne_of_lt hgt_x_a_49)))
      have ha_8 := ha_8.kept (hq_180 _ ((Nat.ne_of_lt hgt_a_8_a_49)))
      have ha_17 := ha_17.kept (hq_180 _ ((Nat.ne_of_lt hgt_a_17_a_49)))
      have ha_26 := ha_26.kept (hq_180 _ ((Nat.ne_of_lt hgt_a_26_a_49)))
      have ha_34 := ha_34.kept (hq_180 _ ((Nat.ne_of_lt hgt_a_34_a_49)))
      have ha_41 := ha_41.kept (hq_180 _ ((Nat.ne_of_lt hgt_a_41_a_49)))
      have ha_57 := ha_57.kept (hq_180 _ ((Nat.ne_of_lt hgt_a_49_a_57).symm))
      have ha_66 := ha_66.kept (hq_180 _ ((Nat.ne_of_lt hgt_a_49_a_66).symm))
      have ha_75 := ha_75.kept (hq_180 _ ((Nat.ne_of_lt hgt_a_49_a_75).symm))
      have ha_88 := ha_88.kept (hq_180 _ ((Nat.ne_of_lt hgt_a_49_a_88).symm))
      have ha_96 := ha_96.kept (hq_180 _ ((Nat.ne_of_lt hgt_a_49_a_96).symm))
      have ha_105 := ha_105.kept (hq_180 _ ((Nat.ne_of_lt hgt_a_49_a_105).symm))
      have ha_112 := ha_112.kept (hq_180 _ ((Nat.ne_of_lt hgt_a_49_a_112).symm))
      refine lv_iinc (v := nI 2) (lv' := [(2, .int (nI 2)), (1, .ref a_112), (0, .ref x)]) hx hb dX8_init_181 hl (k := 0) rfl (nI_add _ _) (by decide) rfl (fun ls hl => ?_)
      refine lv_goto (tgt := 166) hx hb dX8_init_184 (by decide) ?_
      refine lv_iload_n hx hb dX8_init_166 rfl (lv_at hl 0 rfl) ?_
      refine lv_aload_n hx hb dX8_init_167 rfl (lv_at hl 1 rfl) ?_
      refine mm_alen hx hb hKK 0 rfl ha_112 mm_le.rf dX8_init_168 ?_
      refine mm_icmp_ge (tgt := 187) (by omega) (by omega) hx hb dX8_init_169 (by decide) (fun c_169 => ?_) (fun c_169 => ?_)
      · exact absurd c_169 (by decide)
      · refine lv_aload_n hx hb dX8_init_172 rfl (lv_at hl 2 rfl) ?_
        refine mm_get (C := RX8) (T := TX8) (N := 28) (ci := 14) (v := .ref a_49) hx hb hts in_X8 hown hKK (mm_ob.rb hO) mm_le.rf rfl 8 (by decide) (hts _ q2506) (fun _ h9 => h9) rfl dX8_init_173 ?_
        refine lv_iload_n hx hb dX8_init_176 rfl (lv_at hl 0 rfl) ?_
        refine lv_aload_n hx hb dX8_init_177 rfl (lv_at hl 1 rfl) ?_
        refine lv_iload_n hx hb dX8_init_178 rfl (lv_at hl 0 rfl) ?_
        refine mm_iald (k := 2) hx hb hKK ha_112 mm_le.rf (by omega) (by decide) dX8_init_179 ?_
        refine mm_top (y := nI 7) (rfl) ?_
        refine mm_iast (k := 2) hx hb hKK ha_49 hS (Or.inr hle_a_49) (by omega) (by decide) dX8_init_180 (fun H_180 L_180 ha_49 hz_180 hq_180 hS => ?_)
        have hO := hO.kept (hq_180 _ ((Nat.ne_of_lt hgt_x_a_49)))
        have ha_8 := ha_8.kept (hq_180 _ ((Nat.ne_of_lt hgt_a_8_a_49)))
        have ha_17 := ha_17.kept (hq_180 _ ((Nat.ne_of_lt hgt_a_17_a_49)))
        have ha_26 := ha_26.kept (hq_180 _ ((Nat.ne_of_lt hgt_a_26_a_49)))
        have ha_34 := ha_34.kept (hq_180 _ ((Nat.ne_of_lt hgt_a_34_a_49)))
        have ha_41 := ha_41.kept (hq_180 _ ((Nat.ne_of_lt hgt_a_41_a_49)))
        have ha_57 := ha_57.kept (hq_180 _ ((Nat.ne_of_lt hgt_a_49_a_57).symm))
        have ha_66 := ha_66.kept (hq_180 _ ((Nat.ne_of_lt hgt_a_49_a_66).symm))
        have ha_75 := ha_75.kept (hq_180 _ ((Nat.ne_of_lt hgt_a_49_a_75).symm))
        have ha_88 := ha_88.kept (hq_180 _ ((Nat.ne_of_lt hgt_a_49_a_88).symm))
        have ha_96 := ha_96.kept (hq_180 _ ((Nat.ne_of_lt hgt_a_49_a_96).symm))
        have ha_105 := ha_105.kept (hq_180 _ ((Nat.ne_of_lt hgt_a_49_a_105).symm))
        have ha_112 := ha_112.kept (hq_180 _ ((Nat.ne_of_lt hgt_a_49_a_112).symm))
        refine lv_iinc (v := nI 3) (lv' := [(2, .int (nI 3)), (1, .ref a_112), (0, .ref x)]) hx hb dX8_init_181 hl (k := 0) rfl (nI_add _ _) (by decide) rfl (fun ls hl => ?_)
        refine lv_goto (tgt := 166) hx hb dX8_init_184 (by decide) ?_
        refine lv_iload_n hx hb dX8_init_166 rfl (lv_at hl 0 rfl) ?_
        refine lv_aload_n hx hb dX8_init_167 rfl (lv_at hl 1 rfl) ?_
        refine mm_alen hx hb hKK 0 rfl ha_112 mm_le.rf dX8_init_168 ?_
        refine mm_icmp_ge (tgt := 187) (by omega) (by omega) hx hb dX8_init_169 (by decide) (fun c_169 => ?_) (fun c_169 => ?_)
        · exact absurd c_169 (by decide)
        · refine lv_aload_n hx hb dX8_init_172 rfl (lv_at hl 2 rfl) ?_
          refine mm_get (C := RX8) (T := TX8) (N := 28) (ci := 14) (v := .ref a_49) hx hb hts in_X8 hown hKK (mm_ob.rb hO) mm_le.rf rfl 8 (by decide) (hts _ q2506) (fun _ h9 => h9) rfl dX8_init_173 ?_
          refine lv_iload_n hx hb dX8_init_176 rfl (lv_at hl 0 rfl) ?_
          refine lv_aload_n hx hb dX8_init_177 rfl (lv_at hl 1 rfl) ?_
          refine lv_iload_n hx hb dX8_init_178 rfl (lv_at hl 0 rfl) ?_
          refine mm_iald (k := 3) hx hb hKK ha_112 mm_le.rf (by omega) (by decide) dX8_init_179 ?_
          refine mm_top (y := nI 7) (rfl) ?_
          refine mm_iast (k := 3) hx hb hKK ha_49 hS (Or.inr hle_a_49) (by omega) (by decide) dX8_init_180 (fun H_180 L_180 ha_49 hz_180 hq_180 hS => ?_)
          have hO := hO.kept (hq_180 _ ((Nat.ne_of_lt hgt_x_a_49)))
          have ha_8 := ha_8.kept (hq_180 _ ((Nat.ne_of_lt hgt_a_8_a_49)))
          have ha_17 := ha_17.kept (hq_180 _ ((Nat.ne_of_lt hgt_a_17_a_49)))
          have ha_26 := ha_26.kept (hq_180 _ ((Nat.ne_of_lt hgt_a_26_a_49)))
          have ha_34 := ha_34.kept (hq_180 _ ((Nat.ne_of_lt hgt_a_34_a_49)))
          have ha_41 := ha_41.kept (hq_180 _ ((Nat.ne_of_lt hgt_a_41_a_49)))
          have ha_57 := ha_57.kept (hq_180 _ ((Nat.ne_of_lt hgt_a_49_a_57).symm))
          have ha_66 := ha_66.kept (hq_180 _ ((Nat.ne_of_lt hgt_a_49_a_66).symm))
          have ha_75 := ha_75.kept (hq_180 _ ((Nat.ne_of_lt hgt_a_49_a_75).symm))
          have ha_88 := ha_88.kept (hq_180 _ ((Nat.ne_of_lt hgt_a_49_a_88).symm))
          have ha_96 := ha_96.kept (hq_180 _ ((Nat.ne_of_lt hgt_a_49_a_96).symm))
          have ha_105 := ha_105.kept (hq_180 _ ((Nat.ne_of_lt hgt_a_49_a_105).symm))
          have ha_112 := ha_112.kept (hq_180 _ ((Nat.ne_of_lt hgt_a_49_a_112).symm))
          refine lv_iinc (v := nI 4) (lv' := [(2, .int (nI 4)), (1, .ref a_112), (0, .ref x)]) hx hb dX8_init_181 hl (k := 0) rfl (nI_add _ _) (by decide) rfl (fun ls hl => ?_)
          refine lv_goto (tgt := 166) hx hb dX8_init_184 (by decide) ?_
          refine lv_iload_n hx hb dX8_init_166 rfl (lv_at hl 0 rfl) ?_
          refine lv_aload_n hx hb dX8_init_167 rfl (lv_at hl 1 rfl) ?_
          refine mm_alen hx hb hKK 0 rfl ha_112 mm_le.rf dX8_init_168 ?_
          refine mm_icmp_ge (tgt := 187) (by omega) (by omega) hx hb dX8_init_169 (by decide) (fun c_169 => ?_) (fun c_169 => ?_)
          · exact absurd c_169 (by decide)
          · refine lv_aload_n hx hb dX8_init_172 rfl (lv_at hl 2 rfl) ?_
            refine mm_get (C := RX8) (T := TX8) (N := 28) (ci := 14) (v := .ref a_49) hx hb hts in_X8 hown hKK (mm_ob.rb hO) mm_le.rf rfl 8 (by decide) (hts _ q2506) (fun _ h9 => h9) rfl dX8_init_173 ?_
            refine lv_iload_n hx hb dX8_init_176 rfl (lv_at hl 0 rfl) ?_
            refine lv_aload_n hx hb dX8_init_177 rfl (lv_at hl 1 rfl) ?_
            refine lv_iload_n hx hb dX8_init_178 rfl (lv_at hl 0 rfl) ?_
            refine mm_iald (k := 4) hx hb hKK ha_112 mm_le.rf (by omega) (by decide) dX8_init_179 ?_
            refine mm_top (y := nI 0) (rfl) ?_
            refine mm_iast (k := 4) hx hb hKK ha_49 hS (Or.inr hle_a_49) (by omega) (by decide) dX8_init_180 (fun H_180 L_180 ha_49 hz_180 hq_180 hS => ?_)
            have hO := hO.kept (hq_180 _ ((Nat.ne_of_lt hgt_x_a_49)))
            have ha_8 := ha_8.kept (hq_180 _ ((Nat.ne_of_lt hgt_a_8_a_49)))
            have ha_17 := ha_17.kept (hq_180 _ ((Nat.ne_of_lt hgt_a_17_a_49)))
            have ha_26 := ha_26.kept (hq_180 _ ((Nat.ne_of_lt hgt_a_26_a_49)))
            have ha_34 := ha_34.kept (hq_180 _ ((Nat.ne_of_lt hgt_a_34_a_49)))
            have ha_41 := ha_41.kept (hq_180 _ ((Nat.ne_of_lt hgt_a_41_a_49)))
            have ha_57 := ha_57.kept (hq_180 _ ((Nat.ne_of_lt hgt_a_49_a_57).symm))
            have ha_66 := ha_66.kept (hq_180 _ ((Nat.ne_of_lt hgt_a_49_a_66).symm))
            have ha_75 := ha_75.kept (hq_180 _ ((Nat.ne_of_lt hgt_a_49_a_75).symm))
            have ha_88 := ha_88.kept (hq_180 _ ((Nat.ne_of_lt hgt_a_49_a_88).symm))
            have ha_96 := ha_96.kept (hq_180 _ ((Nat.ne_of_lt hgt_a_49_a_96).symm))
            have ha_105 := ha_105.kept (hq_180 _ ((Nat.ne_of_lt hgt_a_49_a_105).symm))
            have ha_112 := ha_112.kept (hq_180 _ ((Nat.ne_of_lt hgt_a_49_a_112).symm))
            refine lv_iinc (v := nI 5) (lv' := [(2, .int (nI 5)), (1, .ref a_112), (0, .ref x)]) hx hb dX8_init_181 hl (k := 0) rfl (nI_add _ _) (by decide) rfl (fun ls hl => ?_)
            refine lv_goto (tgt := 166) hx hb dX8_init_184 (by decide) ?_
            refine lv_iload_n hx hb dX8_init_166 rfl (lv_at hl 0 rfl) ?_
            refine lv_aload_n hx hb dX8_init_167 rfl (lv_at hl 1 rfl) ?_
            refine mm_alen hx hb hKK 0 rfl ha_112 mm_le.rf dX8_init_168 ?_
            refine mm_icmp_ge (tgt := 187) (by omega) (by omega) hx hb dX8_init_169 (by decide) (fun c_169 => ?_) (fun c_169 => ?_)
            · exact absurd c_169 (by decide)
            · refine lv_aload_n hx hb dX8_init_172 rfl (lv_at hl 2 rfl) ?_
              refine mm_get (C := RX8) (T := TX8) (N := 28) (ci := 14) (v := .ref a_49) hx hb hts in_X8 hown hKK (mm_ob.rb hO) mm_le.rf rfl 8 (by decide) (hts _ q2506) (fun _ h9 => h9) rfl dX8_init_173 ?_
              refine lv_iload_n hx hb dX8_init_176 rfl (lv_at hl 0 rfl) ?_
              refine lv_aload_n hx hb dX8_init_177 rfl (lv_at hl 1 rfl) ?_
              refine lv_iload_n hx hb dX8_init_178 rfl (lv_at hl 0 rfl) ?_
              refine mm_iald (k := 5) hx hb hKK ha_112 mm_le.rf (by omega) (by decide) dX8_init_179 ?_
              refine mm_top (y := nI 12) (rfl) ?_
              refine mm_iast (k := 5) hx hb hKK ha_49 hS (Or.inr hle_a_49) (by omega) (by decide) dX8_init_180 (fun H_180 L_180 ha_49 hz_180 hq_180 hS => ?_)
              have hO := hO.kept (hq_180 _ ((Nat.ne_of_lt hgt_x_a_49)))
              have ha_8 := ha_8.kept (hq_180 _ ((Nat.ne_of_lt hgt_a_8_a_49)))
              have ha_17 := ha_17.kept (hq_180 _ ((Nat.ne_of_lt hgt_a_17_a_49)))
              have ha_26 := ha_26.kept (hq_180 _ ((Nat.ne_of_lt hgt_a_26_a_49)))
              have ha_34 := ha_34.kept (hq_180 _ ((Nat.ne_of_lt hgt_a_34_a_49)))
              have ha_41 := ha_41.kept (hq_180 _ ((Nat.ne_of_lt hgt_a_41_a_49)))
              have ha_57 := ha_57.kept (hq_180 _ ((Nat.ne_of_lt hgt_a_49_a_57).symm))
              have ha_66 := ha_66.kept (hq_180 _ ((Nat.ne_of_lt hgt_a_49_a_66).symm))
              have ha_75 := ha_75.kept (hq_180 _ ((Nat.ne_of_lt hgt_a_49_a_75).symm))
              have ha_88 := ha_88.kept (hq_180 _ ((Nat.ne_of_lt hgt_a_49_a_88).symm))
              have ha_96 := ha_96.kept (hq_180 _ ((Nat.ne_of_lt hgt_a_49_a_96).symm))
              have ha_105 := ha_105.kept (hq_180 _ ((Nat.ne_of_lt hgt_a_49_a_105).symm))
              have ha_112 := ha_112.kept (hq_180 _ ((Nat.ne_of_lt hgt_a_49_a_112).symm))
              refine lv_iinc (v := nI 6) (lv' := [(2, .int (nI 6)), (1, .ref a_112), (0, .ref x)]) hx hb dX8_init_181 hl (k := 0) rfl (nI_add _ _) (by decide) rfl (fun ls hl => ?_)
              refine lv_goto (tgt := 166) hx hb dX8_init_184 (by decide) ?_
              refine lv_iload_n hx hb dX8_init_166 rfl (lv_at hl 0 rfl) ?_
              refine lv_aload_n hx hb dX8_init_167 rfl (lv_at hl 1 rfl) ?_
              refine mm_alen hx hb hKK 0 rfl ha_112 mm_le.rf dX8_init_168 ?_
              refine mm_icmp_ge (tgt := 187) (by omega) (by omega) hx hb dX8_init_169 (by decide) (fun c_169 => ?_) (fun c_169 => ?_)
              · exact absurd c_169 (by decide)
              · refine lv_aload_n hx hb dX8_init_172 rfl (lv_at hl 2 rfl) ?_
                refine mm_get (C := RX8) (T := TX8) (N := 28) (ci := 14) (v := .ref a_49) hx hb hts in_X8 hown hKK (mm_ob.rb hO) mm_le.rf rfl 8 (by decide) (hts _ q2506) (fun _ h9 => h9) rfl dX8_init_173 ?_
                refine lv_iload_n hx hb dX8_init_176 rfl (lv_at hl 0 rfl) ?_
                refine lv_aload_n hx hb dX8_init_177 rfl (lv_at hl 1 rfl) ?_
                refine lv_iload_n hx hb dX8_init_178 rfl (lv_at hl 0 rfl) ?_
                refine mm_iald (k := 6) hx hb hKK ha_112 mm_le.rf (by omega) (by decide) dX8_init_179 ?_
                refine mm_top (y := nI 3) (rfl) ?_
                refine mm_iast (k := 6) hx hb hKK ha_49 hS (Or.inr hle_a_49) (by omega) (by decide) dX8_init_180 (fun H_180 L_180 ha_49 hz_180 hq_180 hS => ?_)
                have hO := hO.kept (hq_180 _ ((Nat.ne_of_lt hgt_x_a_49)))
                have ha_8 := ha_8.kept (hq_180 _ ((Nat.ne_of_lt hgt_a_8_a_49)))
                have ha_17 := ha_17.kept (hq_180 _ ((Nat.ne_of_lt hgt_a_17_a_49)))
                have ha_26 := ha_26.kept (hq_180 _ ((Nat.ne_of_lt hgt_a_26_a_49)))
                have ha_34 := ha_34.kept (hq_180 _ ((Nat.ne_of_lt hgt_a_34_a_49)))
                have ha_41 := ha_41.kept (hq_180 _ ((Nat.ne_of_lt hgt_a_41_a_49)))
                have ha_57 := ha_57.kept (hq_180 _ ((Nat.ne_of_lt hgt_a_49_a_57).symm))
                have ha_66 := ha_66.kept (hq_180 _ ((Nat.ne_of_lt hgt_a_49_a_66).symm))
                have ha_75 := ha_75.kept (hq_180 _ ((Nat.ne_of_lt hgt_a_49_a_75).symm))
                have ha_88 := ha_88.kept (hq_180 _ ((Nat.ne_of_lt hgt_a_49_a_88).symm))
                have ha_96 := ha_96.kept (hq_180 _ ((Nat.ne_of_lt hgt_a_49_a_96).symm))
                have ha_105 := ha_105.kept (hq_180 _ ((Nat.ne_of_lt hgt_a_49_a_105).symm))
                have ha_112 := ha_112.kept (hq_180 _ ((Nat.ne_of_lt hgt_a_49_a_112).symm))
                refine lv_iinc (v := nI 7) (lv' := [(2, .int (nI 7)), (1, .ref a_112), (0, .ref x)]) hx hb dX8_init_181 hl (k := 0) rfl (nI_add _ _) (by decide) rfl (fun ls hl => ?_)
                refine lv_goto (tgt := 166) hx hb dX8_init_184 (by decide) ?_
                refine lv_iload_n hx hb dX8_init_166 rfl (lv_at hl 0 rfl) ?_
                refine lv_aload_n hx hb dX8_init_167 rfl (lv_at hl 1 rfl) ?_
                refine mm_alen hx hb hKK 0 rfl ha_112 mm_le.rf dX8_init_168 ?_
                refine mm_icmp_ge (tgt := 187) (by omega) (by omega) hx hb dX8_init_169 (by decide) (fun c_169 => ?_) (fun c_169 => ?_)
                · exact absurd c_169 (by decide)
                · refine lv_aload_n hx hb dX8_init_172 rfl (lv_at hl 2 rfl) ?_
                  refine mm_get (C := RX8) (T := TX8) (N := 28) (ci := 14) (v := .ref a_49) hx hb hts in_X8 hown hKK (mm_ob.rb hO) mm_le.rf rfl 8 (by decide) (hts _ q2506) (fun _ h9 => h9) rfl dX8_init_173 ?_
                  refine lv_iload_n hx hb dX8_init_176 rfl (lv_at hl 0 rfl) ?_
                  refine lv_aload_n hx hb dX8_init_177 rfl (lv_at hl 1 rfl) ?_
                  refine lv_iload_n hx hb dX8_init_178 rfl (lv_at hl 0 rfl) ?_
                  refine mm_iald (k := 7) hx hb hKK ha_112 mm_le.rf (by omega) (by decide) dX8_init_179 ?_
                  refine mm_top (y := nI 1) (rfl) ?_
                  refine mm_iast (k := 7) hx hb hKK ha_49 hS (Or.inr hle_a_49) (by omega) (by decide) dX8_init_180 (fun H_180 L_180 ha_49 hz_180 hq_180 hS => ?_)
                  have hO := hO.kept (hq_180 _ ((Nat.ne_of_lt hgt_x_a_49)))
                  have ha_8 := ha_8.kept (hq_180 _ ((Nat.ne_of_lt hgt_a_8_a_49)))
                  have ha_17 := ha_17.kept (hq_180 _ ((Nat.ne_of_lt hgt_a_17_a_49)))
                  have ha_26 := ha_26.kept (hq_180 _ ((Nat.ne_of_lt hgt_a_26_a_49)))
                  have ha_34 := ha_34.kept (hq_180 _ ((Nat.ne_of_lt hgt_a_34_a_49)))
                  have ha_41 := ha_41.kept (hq_180 _ ((Nat.ne_of_lt hgt_a_41_a_49)))
                  have ha_57 := ha_57.kept (hq_180 _ ((Nat.ne_of_lt hgt_a_49_a_57).symm))
                  have ha_66 := ha_66.kept (hq_180 _ ((Nat.ne_of_lt hgt_a_49_a_66).symm))
                  have ha_75 := ha_75.kept (hq_180 _ ((Nat.ne_of_lt hgt_a_49_a_75).symm))
                  have ha_88 := ha_88.kept (hq_180 _ ((Nat.ne_of_lt hgt_a_49_a_88).symm))
                  have ha_96 := ha_96.kept (hq_180 _ ((Nat.ne_of_lt hgt_a_49_a_96).symm))
                  have ha_105 := ha_105.kept (hq_180 _ ((Nat.ne_of_lt hgt_a_49_a_105).symm))
                  have ha_112 := ha_112.kept (hq_180 _ ((Nat.ne_of_lt hgt_a_49_a_112).symm))
                  refine lv_iinc (v := nI 8) (lv' := [(2, .int (nI 8)), (1, .ref a_112), (0, .ref x)]) hx hb dX8_init_181 hl (k := 0) rfl (nI_add _ _) (by decide) rfl (fun ls hl => ?_)
                  refine lv_goto (tgt := 166) hx hb dX8_init_184 (by decide) ?_
                  refine lv_iload_n hx hb dX8_init_166 rfl (lv_at hl 0 rfl) ?_
                  refine lv_aload_n hx hb dX8_init_167 rfl (lv_at hl 1 rfl) ?_
                  refine mm_alen hx hb hKK 0 rfl ha_112 mm_le.rf dX8_init_168 ?_
                  refine mm_icmp_ge (tgt := 187) (by omega) (by omega) hx hb dX8_init_169 (by decide) (fun c_169 => ?_) (fun c_169 => ?_)
                  · exact absurd c_169 (by decide)
                  · refine lv_aload_n hx hb dX8_init_172 rfl (lv_at hl 2 rfl) ?_
                    refine mm_get (C := RX8) (T := TX8) (N := 28) (ci := 14) (v := .ref a_49) hx hb hts in_X8 hown hKK (mm_ob.rb hO) mm_le.rf rfl 8 (by decide) (hts _ q2506) (fun _ h9 => h9) rfl dX8_init_173 ?_
                    refine lv_iload_n hx hb dX8_init_176 rfl (lv_at hl 0 rfl) ?_
                    refine lv_aload_n hx hb dX8_init_177 rfl (lv_at hl 1 rfl) ?_
                    refine lv_iload_n hx hb dX8_init_178 rfl (lv_at hl 0 rfl) ?_
                    refine mm_iald (k := 8) hx hb hKK ha_112 mm_le.rf (by omega) (by decide) dX8_init_179 ?_
                    refine mm_top (y := nI 9) (rfl) ?_
                    refine mm_iast (k := 8) hx hb hKK ha_49 hS (Or.inr hle_a_49) (by omega) (by decide) dX8_init_180 (fun H_180 L_180 ha_49 hz_180 hq_180 hS => ?_)
                    have hO := hO.kept (hq_180 _ ((Nat.ne_of_lt hgt_x_a_49)))
                    have ha_8 := ha_8.kept (hq_180 _ ((Nat.ne_of_lt hgt_a_8_a_49)))
                    have ha_17 := ha_17.kept (hq_180 _ ((Nat.ne_of_lt hgt_a_17_a_49)))
                    have ha_26 := ha_26.kept (hq_180 _ ((Nat.ne_of_lt hgt_a_26_a_49)))
                    have ha_34 := ha_34.kept (hq_180 _ ((Nat.ne_of_lt hgt_a_34_a_49)))
                    have ha_41 := ha_41.kept (hq_180 _ ((Nat.ne_of_lt hgt_a_41_a_49)))
                    have ha_57 := ha_57.kept (hq_180 _ ((Nat.ne_of_lt hgt_a_49_a_57).symm))
                    have ha_66 := ha_66.kept (hq_180 _ ((Nat.ne_of_lt hgt_a_49_a_66).symm))
                    have ha_75 := ha_75.kept (hq_180 _ ((Nat.ne_of_lt hgt_a_49_a_75).symm))
                    have ha_88 := ha_88.kept (hq_180 _ ((Nat.ne_of_lt hgt_a_49_a_88).symm))
                    have ha_96 := ha_96.kept (hq_180 _ ((Nat.ne_of_lt hgt_a_49_a_96).symm))
                    have ha_105 := ha_105.kept (hq_180 _ ((Nat.ne_of_lt hgt_a_49_a_105).symm))
                    have ha_112 := ha_112.kept (hq_180 _ ((Nat.ne_of_lt hgt_a_49_a_112).symm))
                    refine lv_iinc (v := nI 9) (lv' := [(2, .int (nI 9)), (1, .ref a_112), (0, .ref x)]) hx hb dX8_init_181 hl (k := 0) rfl (nI_add _ _) (by decide) rfl (fun ls hl => ?_)
                    refine lv_goto (tgt := 166) hx hb dX8_init_184 (by decide) ?_
                    refine lv_iload_n hx hb dX8_init_166 rfl (lv_at hl 0 rfl) ?_
                    refine lv_aload_n hx hb dX8_init_167 rfl (lv_at hl 1 rfl) ?_
                    refine mm_alen hx hb hKK 0 rfl ha_112 mm_le.rf dX8_init_168 ?_
                    refine mm_icmp_ge (tgt := 187) (by omega) (by omega) hx hb dX8_init_169 (by decide) (fun c_169 => ?_) (fun c_169 => ?_)
                    · exact absurd c_169 (by decide)
                    · refine lv_aload_n hx hb dX8_init_172 rfl (lv_at hl 2 rfl) ?_
                      refine mm_get (C := RX8) (T := TX8) (N := 28) (ci := 14) (v := .ref a_49) hx hb hts in_X8 hown hKK (mm_ob.rb hO) mm_le.rf rfl 8 (by decide) (hts _ q2506) (fun _ h9 => h9) rfl dX8_init_173 ?_
                      refine lv_iload_n hx hb dX8_init_176 rfl (lv_at hl 0 rfl) ?_
                      refine lv_aload_n hx hb dX8_init_177 rfl (lv_at hl 1 rfl) ?_
                      refine lv_iload_n hx hb dX8_init_178 rfl (lv_at hl 0 rfl) ?_
                      refine mm_iald (k := 9) hx hb hKK ha_112 mm_le.rf (by omega) (by decide) dX8_init_179 ?_
                      refine mm_top (y := nI 4) (rfl) ?_
                      refine mm_iast (k := 9) hx hb hKK ha_49 hS (Or.inr hle_a_49) (by omega) (by decide) dX8_init_180 (fun H_180 L_180 ha_49 hz_180 hq_180 hS => ?_)
                      have hO := hO.kept (hq_180 _ ((Nat.ne_of_lt hgt_x_a_49)))
                      have ha_8 := ha_8.kept (hq_180 _ ((Nat.ne_of_lt hgt_a_8_a_49)))
                      have ha_17 := ha_17.kept (hq_180 _ ((Nat.ne_of_lt hgt_a_17_a_49)))
                      have ha_26 := ha_26.kept (hq_180 _ ((Nat.ne_of_lt hgt_a_26_a_49)))
                      have ha_34 := ha_34.kept (hq_180 _ ((Nat.ne_of_lt hgt_a_34_a_49)))
                      have ha_41 := ha_41.kept (hq_180 _ ((Nat.ne_of_lt hgt_a_41_a_49)))
                      have ha_57 := ha_57.kept (hq_180 _ ((Nat.ne_of_lt hgt_a_49_a_57).symm))
                      have ha_66 := ha_66.kept (hq_180 _ ((Nat.ne_of_lt hgt_a_49_a_66).symm))
                      have ha_75 := ha_75.kept (hq_180 _ ((Nat.ne_of_lt hgt_a_49_a_75).symm))
                      have ha_88 := ha_88.kept (hq_180 _ ((Nat.ne_of_lt hgt_a_49_a_88).symm))
                      have ha_96 := ha_96.kept (hq_180 _ ((Nat.ne_of_lt hgt_a_49_a_96).symm))
                      have ha_105 := ha_105.kept (hq_180 _ ((Nat.ne_of_lt hgt_a_49_a_105).symm))
                      have ha_112 := ha_112.kept (hq_180 _ ((Nat.ne_of_lt hgt_a_49_a_112).symm))
                      refine lv_iinc (v := nI 10) (lv' := [(2, .int (nI 10)), (1, .ref a_112), (0, .ref x)]) hx hb dX8_init_181 hl (k := 0) rfl (nI_add _ _) (by decide) rfl (fun ls hl => ?_)
                      refine lv_goto (tgt := 166) hx hb dX8_init_184 (by decide) ?_
                      refine lv_iload_n hx hb dX8_init_166 rfl (lv_at hl 0 rfl) ?_
                      refine lv_aload_n hx hb dX8_init_167 rfl (lv_at hl 1 rfl) ?_
                      refine mm_alen hx hb hKK 0 rfl ha_112 mm_le.rf dX8_init_168 ?_
                      refine mm_icmp_ge (tgt := 187) (by omega) (by omega) hx hb dX8_init_169 (by decide) (fun c_169 => ?_) (fun c_169 => ?_)
                      · refine lv_aload_n hx hb dX8_init_187 rfl (lv_at hl 2 rfl) ?_
                        refine lv_aload_n hx hb dX8_init_188 rfl (lv_at hl 1 rfl) ?_
                        refine mm_alen hx hb hKK 0 rfl ha_112 mm_le.rf dX8_init_189 ?_
                        refine mm_put (C := RX8) (T := TX8) (N := 28) (ci := 14) (v := .int (nI 10)) (ty := .int) hx hb hts in_X8 tyX8 tyX8_ok nmX8 hown hKK hO hS (Or.inl rfl) rfl 9 (by decide) (hts _ q2507) (fun _ h9 => h9) rfl  (by decide +kernel) (rfl) (rfl) (Nat.le_of_ble_eq_true rfl) dX8_init_190 (fun H_190 L_190 hO hz_190 hq_190 hS => ?_)
                        have hO : mm_ob G (mm_h H_190) x 14 [.ref a_8, .ref a_17, .ref a_26, .ref a_34, .int (nI 0), .int (nI 0), .int (nI 0), .ref a_41, .ref a_49, .int (nI 10), .ref a_57, .ref a_66, .ref a_75, .int (nI 0), .int (nI 0), .int ((-1)), .int (nI 0), .int (nI 0), .int (nI 0), .int (nI 0), .int (nI 0), .int (nI 0), .ref a_88, .int (nI 0), .ref a_96, .int (nI 0), .ref a_105, .int (nI 0)] := hO
                        have ha_8 := ha_8.kept (hq_190 _ ((Nat.ne_of_lt hgt_x_a_8).symm))
                        have ha_17 := ha_17.kept (hq_190 _ ((Nat.ne_of_lt hgt_x_a_17).symm))
                        have ha_26 := ha_26.kept (hq_190 _ ((Nat.ne_of_lt hgt_x_a_26).symm))
                        have ha_34 := ha_34.kept (hq_190 _ ((Nat.ne_of_lt hgt_x_a_34).symm))
                        have ha_41 := ha_41.kept (hq_190 _ ((Nat.ne_of_lt hgt_x_a_41).symm))
                        have ha_49 := ha_49.kept (hq_190 _ ((Nat.ne_of_lt hgt_x_a_49).symm))
                        have ha_57 := ha_57.kept (hq_190 _ ((Nat.ne_of_lt hgt_x_a_57).symm))
                        have ha_66 := ha_66.kept (hq_190 _ ((Nat.ne_of_lt hgt_x_a_66).symm))
                        have ha_75 := ha_75.kept (hq_190 _ ((Nat.ne_of_lt hgt_x_a_75).symm))
                        have ha_88 := ha_88.kept (hq_190 _ ((Nat.ne_of_lt hgt_x_a_88).symm))
                        have ha_96 := ha_96.kept (hq_190 _ ((Nat.ne_of_lt hgt_x_a_96).symm))
                        have ha_105 := ha_105.kept (hq_190 _ ((Nat.ne_of_lt hgt_x_a_105).symm))
                        have ha_112 := ha_112.kept (hq_190 _ ((Nat.ne_of_lt hgt_x_a_112).symm))
                        refine lv_aload_n hx hb dX8_init_193 rfl (lv_at hl 2 rfl) ?_
                        have hD : tw_D x (fun k => ([a_8, a_17, a_26, a_34, 0, 0, 0, a_41, a_49, 0, a_57, a_66, a_75, 0, 0, 0, 0, 0, 0, 0, 0, 0, a_88, 0, a_96, 0, a_105, 0] : List Nat).getD k 0) := tw_D_mono (n := H.size) hltx9 hle_a_8 hgt_a_8_a_17 hgt_a_17_a_26 hgt_a_26_a_34 hgt_a_34_a_41 hgt_a_41_a_49 hgt_a_49_a_57 hgt_a_57_a_66 hgt_a_66_a_75 hgt_a_75_a_88 hgt_a_88_a_96 hgt_a_96_a_105
                        have hT : TW G x (fun k => ([a_8, a_17, a_26, a_34, 0, 0, 0, a_41, a_49, 0, a_57, a_66, a_75, 0, 0, 0, 0, 0, 0, 0, 0, 0, a_88, 0, a_96, 0, a_105, 0] : List Nat).getD k 0) (fun k => ([0, 0, 0, 0, nI 0, nI 0, nI 0, 0, 0, nI 10, 0, 0, 0, nI 0, nI 0, (-1), nI 0, nI 0, nI 0, nI 0, nI 0, nI 0, 0, nI 0, 0, nI 0, 0, nI 0] : List Int32).getD k 0) (fun k => if k = 8 then (upd (upd (upd (upd (upd (upd (upd (upd (upd (upd (fun _ => 0) 0 (nI 5)) 1 ((-2))) 2 (nI 7)) 3 (nI 7)) 4 (nI 0)) 5 (nI 12)) 6 (nI 3)) 7 (nI 1)) 8 (nI 9)) 9 (nI 4)) else fun _ => 0) H_190 := ⟨hD, hO, fun k hk => by
                          rcases tw_isA_c hk with rfl | rfl | rfl | rfl | rfl | rfl | rfl | rfl | rfl | rfl | rfl | rfl
                          · exact ha_8
                          · exact ha_17
                          · exact ha_26
                          · exact ha_34
                          · exact ha_41
                          · exact ha_49
                          · exact ha_57
                          · exact ha_66
                          · exact ha_75
                          · exact ha_88
                          · exact ha_96
                          · exact ha_105⟩
                        refine mm_rv (va_runV (As := []) (rest := []) ⟨hx, hb, hml, hown, hts⟩ (t_begin l (n := 10) (ev := ev0) hT rfl (by decide) (fun i hi => by match i, hi with | 0, _ => rfl | 1, _ => rfl | 2, _ => rfl | 3, _ => rfl | 4, _ => rfl | 5, _ => rfl | 6, _ => rfl | 7, _ => rfl | 8, _ => rfl | 9, _ => rfl | n + 10, h => exact absurd h (by omega))) (cwV 0 hts (lw_V q2447 q2449 qs54 q164 q2450) rfl rfl rfl (by decide +kernel) ⟨Nat.le_of_ble_eq_true rfl, Nat.le_of_ble_eq_true rfl⟩) (mm_pV hKK (mm_rc hKK hO mm_le.rf rfl)) rfl rfl hl.1 rfl (lv_room (Nat.le_of_ble_eq_true rfl)) dX8_init_194 ⟨Nat.le_of_ble_eq_true rfl, Nat.le_of_ble_eq_true rfl⟩) hS (mm_sM hS (fun q hq9 => ?_)) (fun H_194 L_194 hB_194 hz_194 hq_194 hS => ?_)
                        · rcases hq9 with rfl | ⟨k, hk, rfl⟩
                          · exact Or.inl rfl
                          · refine Or.inr ?_
                            rcases tw_isA_c hk with rfl | rfl | rfl | rfl | rfl | rfl | rfl | rfl | rfl | rfl | rfl | rfl
                            · exact hle_a_8
                            · exact hle_a_17
                            · exact hle_a_26
                            · exact hle_a_34
                            · exact hle_a_41
                            · exact hle_a_49
                            · exact hle_a_57
                            · exact hle_a_66
                            · exact hle_a_75
                            · exact hle_a_88
                            · exact hle_a_96
                            · exact hle_a_105
                        obtain ⟨F_194, hT, he_194, hR⟩ := hB_194
                        exact mm_vret hx hb hr hlk hS (Nat.le_of_ble_eq_true rfl) (Nat.le_of_ble_eq_true rfl) (⟨rfl, (fun k => ([a_8, a_17, a_26, a_34, 0, 0, 0, a_41, a_49, 0, a_57, a_66, a_75, 0, 0, 0, 0, 0, 0, 0, 0, 0, a_88, 0, a_96, 0, a_105, 0] : List Nat).getD k 0), (fun k => ([0, 0, 0, 0, nI 0, nI 0, nI 0, 0, 0, nI 10, 0, 0, 0, nI 0, nI 0, (-1), nI 0, nI 0, nI 0, nI 0, nI 0, nI 0, 0, nI 0, 0, nI 0, 0, nI 0] : List Int32).getD k 0), F_194, hT, (fun k hk => by rcases tw_isA_c hk with rfl | rfl | rfl | rfl | rfl | rfl | rfl | rfl | rfl | rfl | rfl | rfl <;> first | exact hle_a_8 | exact hle_a_17 | exact hle_a_26 | exact hle_a_34 | exact hle_a_41 | exact hle_a_49 | exact hle_a_57 | exact hle_a_66 | exact hle_a_75 | exact hle_a_88 | exact hle_a_96 | exact hle_a_105), ⟨rfl, rfl, rfl, rfl, rfl, rfl, rfl⟩, hR⟩) dX8_init_197
                      · exact absurd c_169 (by decide)
