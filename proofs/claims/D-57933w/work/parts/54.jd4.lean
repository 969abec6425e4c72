/-! lists: removing, inserting; Integers (printed by tools/jd4.py) -/
set_option maxRecDepth 100000 in
theorem a_add2d (l : Launch) {G : mm_G} {P : mm_H} {H : Heap} {We : mm_H} {v : Nat} {a arr cap n : Nat} {mc : Int32} {es : Nat → Nat} (hL : AL G (mm_h H) a arr cap mc n es) (hv : mm_el G We v) (hWe : mm_le We (mm_h H)) (hroom : n < cap) (hWa : We a = none) : Mt l yJ2_add_2 (ws_ yJ2_add_2 cJ2_add_2 4 none) 1 40 0 0 G P [.ref a, .ref v, .ref arr, .int (nI n)] H (fun q => q = a ∨ q = arr) (mm_v (fun H1 => AL G (mm_h H1) a arr cap mc (n + 1) (fun j => if j = n then v else es j))) := by
  refine Mt.of (by decide) (Nat.le_of_ble_eq_true rfl) (fun p e s m below meth c ls hx hb hr hlk hml hown hnm hts hKK hsH hl hS => ?_)
  have hl : lv_has ls 4 [(0, .ref a), (1, .ref v), (2, .ref arr), (3, .int (nI n))] := hl
  have hO := hL.1
  have hnc := hL.2.1
  have hc16 := hL.2.2.1
  have hnea := hL.2.2.2.1
  have hA := hL.q (by omega)
  refine lv_iload_n hx hb dJ2_add_2_0 rfl (lv_at hl 3 rfl) ?_
  refine lv_aload_n hx hb dJ2_add_2_1 rfl (lv_at hl 2 rfl) ?_
  refine mm_alen hx hb hKK 4 rfl hA mm_le.rf dJ2_add_2_2 ?_
  refine mm_icmp_ne (tgt := 11) (by omega) (by omega) hx hb dJ2_add_2_3 (by decide) (fun c_3 => ?_) (fun c_3 => ?_)
  · refine lv_aload_n hx hb dJ2_add_2_11 rfl (lv_at hl 2 rfl) ?_
    refine lv_iload_n hx hb dJ2_add_2_12 rfl (lv_at hl 3 rfl) ?_
    refine lv_aload_n hx hb dJ2_add_2_13 rfl (lv_at hl 1 rfl) ?_
    refine mm_aast (k := n) hx hb hKK hA hS (Or.inl (Or.inr rfl)) (by omega) (by omega) hv hWe dJ2_add_2_14 (fun H_14 L_14 hA hz_14 hq_14 hS => ?_)
    have hO := hO.kept (hq_14 _ ((Ne.symm hnea).symm))
    refine lv_aload_n hx hb dJ2_add_2_15 rfl (lv_at hl 0 rfl) ?_
    refine lv_iload_n hx hb dJ2_add_2_16 rfl (lv_at hl 3 rfl) ?_
    refine lv_iconst (v := nI 1) hx hb dJ2_add_2_17 (by decide) ?_
    refine mm_iadd hx hb dJ2_add_2_18 ?_
    refine mm_put (C := RJ2) (T := TJ2) (N := 3) (ci := 15) (v := .int (nI (n + 1))) (ty := .int) hx hb hts in_J2 tyJ2 tyJ2_ok nmJ2 hown hKK hO hS (Or.inl (Or.inl rfl)) rfl 2 (by decide) (hts _ q212) (fun _ h9 => h9) rfl  (by decide +kernel) (rfl) (rfl) (Nat.le_of_ble_eq_true rfl) dJ2_add_2_19 (fun H_19 L_19 hO hz_19 hq_19 hS => ?_)
    have hO : mm_ob G (mm_h H_19) a 15 [.int mc, .ref arr, .int (nI (n + 1))] := hO
    have hA := hA.kept (hq_19 _ ((Ne.symm hnea)))
    exact mm_vret hx hb hr hlk hS (Nat.le_of_ble_eq_true rfl) (Nat.le_of_ble_eq_true rfl) (⟨rfl, hO, by omega, hc16, hnea, .inr ⟨by omega, by rw [← alF_add]; exact hA⟩⟩) dJ2_add_2_22
  · exfalso; omega
set_option maxRecDepth 100000 in
theorem a_addd (l : Launch) {G : mm_G} {P : mm_H} {H : Heap} {We : mm_H} {v : Nat} {a arr cap n : Nat} {mc : Int32} {es : Nat → Nat} (hL : AL G (mm_h H) a arr cap mc n es) (hv : mm_el G We v) (hWe : mm_le We (mm_h H)) (hroom : n < cap) (hWa : We a = none) : Mt l yJ2_add (ws_ yJ2_add cJ2_add 2 (some .boolean)) 2 80 0 0 G P [.ref a, .ref v] H (fun q => q = a ∨ q = arr) (mm_i (mm_b true) (fun H1 => AL G (mm_h H1) a arr cap (mc + nI 1) (n + 1) (fun j => if j = n then v else es j))) := by
  refine Mt.of (by decide) (Nat.le_of_ble_eq_true rfl) (fun p e s m below meth c ls hx hb hr hlk hml hown hnm hts hKK hsH hl hS => ?_)
  have hl : lv_has ls 2 [(0, .ref a), (1, .ref v)] := hl
  have hO := hL.1
  have hnc := hL.2.1
  have hc16 := hL.2.2.1
  have hnea := hL.2.2.2.1
  have hA := hL.q (by omega)
  refine lv_aload_n hx hb dJ2_add_0 rfl (lv_at hl 0 rfl) ?_
  refine lv_dup hx hb dJ2_add_1 rfl ?_
  refine mm_get (C := RJ2) (T := TJ2) (N := 3) (ci := 15) (v := .int mc) hx hb hts in_J2 hown hKK (mm_ob.rb hO) mm_le.rf rfl 0 (by decide) (hts _ q216) (u_same (hts _ q215)) rfl dJ2_add_2 ?_
  refine lv_iconst (v := nI 1) hx hb dJ2_add_5 (by decide) ?_
  refine lv_iadd hx hb dJ2_add_6 ?_
  refine mm_put (C := RJ2) (T := TJ2) (N := 3) (ci := 15) (v := .int (mc + (nI 1))) (ty := .int) hx hb hts in_J2 tyJ2 tyJ2_ok nmJ2 hown hKK hO hS (Or.inl (Or.inl rfl)) rfl 0 (by decide) (hts _ q216) (u_same (hts _ q215)) rfl  (by decide +kernel) (rfl) (rfl) (Nat.le_of_ble_eq_true rfl) dJ2_add_7 (fun H_7 L_7 hO hz_7 hq_7 hS => ?_)
  have hO : mm_ob G (mm_h H_7) a 15 [.int (mc + (nI 1)), .ref arr, .int (nI n)] := hO
  have hA := hA.kept (hq_7 _ ((Ne.symm hnea)))
  refine lv_aload_n hx hb dJ2_add_10 rfl (lv_at hl 0 rfl) ?_
  refine lv_aload_n hx hb dJ2_add_11 rfl (lv_at hl 1 rfl) ?_
  refine lv_aload_n hx hb dJ2_add_12 rfl (lv_at hl 0 rfl) ?_
  refine mm_get (C := RJ2) (T := TJ2) (N := 3) (ci := 15) (v := .ref arr) hx hb hts in_J2 hown hKK (mm_ob.rb hO) mm_le.rf rfl 1 (by decide) (hts _ q209) (fun _ h9 => h9) rfl dJ2_add_13 ?_
  refine lv_aload_n hx hb dJ2_add_16 rfl (lv_at hl 0 rfl) ?_
  refine mm_get (C := RJ2) (T := TJ2) (N := 3) (ci := 15) (v := .int (nI n)) hx hb hts in_J2 hown hKK (mm_ob.rb hO) mm_le.rf rfl 2 (by decide) (hts _ q212) (fun _ h9 => h9) rfl dJ2_add_17 ?_
  have hL1 : AL G (mm_h H_7) a arr cap (mc + nI 1) n es := ⟨hO, hnc, hc16, hnea, .inr ⟨by omega, hA⟩⟩
  have hWe := hWe.put hq_7 hWa
  refine mm_rv (va_runV (As := [.ref v, .ref arr, .int (nI n)]) (rest := []) ⟨hx, hb, hml, hown, hts⟩ (a_add2d l hL1 hv hWe hroom hWa) (cwV 3 hts (lw_V q256 q258 qs0 q138 q259) rfl rfl rfl (by decide +kernel) ⟨Nat.le_of_ble_eq_true rfl, Nat.le_of_ble_eq_true rfl⟩) (mm_pV hKK (mm_rc hKK hO mm_le.rf rfl)) rfl rfl hl.1 rfl (lv_room (Nat.le_of_ble_eq_true rfl)) dJ2_add_20 ⟨Nat.le_of_ble_eq_true rfl, Nat.le_of_ble_eq_true rfl⟩) hS (mm_sS hS) (fun H_20 L_20 hB_20 hz_20 hq_20 hS => ?_)
  refine lv_iconst (v := nI 1) hx hb dJ2_add_23 (by decide) ?_
  refine mm_top (y := mm_b true) rfl ?_
  exact mm_zret (v := mm_b true) hx hb hr hlk hS (Nat.le_of_ble_eq_true rfl) (Nat.le_of_ble_eq_true rfl) (mm_nb _) (⟨rfl, hB_20⟩) dJ2_add_24
set_option maxRecDepth 100000 in
theorem a_frem (l : Launch) {G : mm_G} {P : mm_H} {H : Heap} {We : mm_H} {i : Nat} {a arr cap n : Nat} {mc : Int32} {es : Nat → Nat} (hL : AL G (mm_h H) a arr cap mc n es) (hi9 : i < n) (hel : ∀ j, j < n → mm_el G We (es j)) (hWe : mm_le We (mm_h H)) (hWa : We a = none) : Mt l yJ2_fastRemove (ws_ yJ2_fastRemove cJ2_fastRemove 4 none) 2 80 0 0 G P [.ref a, .ref arr, .int (nI i)] H (fun q => q = a ∨ q = arr) (mm_v (fun H1 => AL G (mm_h H1) a arr cap (mc + nI 1) (n - 1) (fun j => if j < i then es j else es (j + 1)))) := by
  refine Mt.of (by decide) (Nat.le_of_ble_eq_true rfl) (fun p e s m below meth c ls hx hb hr hlk hml hown hnm hts hKK hsH hl hS => ?_)
  have hl : lv_has ls 4 [(0, .ref a), (1, .ref arr), (2, .int (nI i))] := hl
  have hO := hL.1
  have hnc := hL.2.1
  have hc16 := hL.2.2.1
  have hnea := hL.2.2.2.1
  have hA := hL.q (by omega)
  refine lv_aload_n hx hb dJ2_fastRemove_0 rfl (lv_at hl 0 rfl) ?_
  refine lv_dup hx hb dJ2_fastRemove_1 rfl ?_
  refine mm_get (C := RJ2) (T := TJ2) (N := 3) (ci := 15) (v := .int mc) hx hb hts in_J2 hown hKK (mm_ob.rb hO) mm_le.rf rfl 0 (by decide) (hts _ q216) (u_same (hts _ q215)) rfl dJ2_fastRemove_2 ?_
  refine lv_iconst (v := nI 1) hx hb dJ2_fastRemove_5 (by decide) ?_
  refine lv_iadd hx hb dJ2_fastRemove_6 ?_
  refine mm_put (C := RJ2) (T := TJ2) (N := 3) (ci := 15) (v := .int (mc + (nI 1))) (ty := .int) hx hb hts in_J2 tyJ2 tyJ2_ok nmJ2 hown hKK hO hS (Or.inl (Or.inl rfl)) rfl 0 (by decide) (hts _ q216) (u_same (hts _ q215)) rfl  (by decide +kernel) (rfl) (rfl) (Nat.le_of_ble_eq_true rfl) dJ2_fastRemove_7 (fun H_7 L_7 hO hz_7 hq_7 hS => ?_)
  have hO : mm_ob G (mm_h H_7) a 15 [.int (mc + (nI 1)), .ref arr, .int (nI n)] := hO
  have hA := hA.kept (hq_7 _ ((Ne.symm hnea)))
  refine lv_aload_n hx hb dJ2_fastRemove_10 rfl (lv_at hl 0 rfl) ?_
  refine mm_get (C := RJ2) (T := TJ2) (N := 3) (ci := 15) (v := .int (nI n)) hx hb hts in_J2 hown hKK (mm_ob.rb hO) mm_le.rf rfl 2 (by decide) (hts _ q212) (fun _ h9 => h9) rfl dJ2_fastRemove_11 ?_
  refine lv_iconst (v := nI 1) hx hb dJ2_fastRemove_14 (by decide) ?_
  refine mm_isub (by omega) hx hb dJ2_fastRemove_15 ?_
  refine lv_dup hx hb dJ2_fastRemove_16 rfl ?_
  refine lv_istore_n (lv' := [(3, .int (nI (n - 1))), (0, .ref a), (1, .ref arr), (2, .int (nI i))]) hx hb dJ2_fastRemove_17 rfl hl (by decide) rfl (fun ls hl => ?_)
  refine lv_iload_n hx hb dJ2_fastRemove_18 rfl (lv_at hl 3 rfl) ?_
  refine mm_icmp_le (tgt := 34) (by omega) (by omega) hx hb dJ2_fastRemove_19 (by decide) (fun c_19 => ?_) (fun c_19 => ?_)
  · refine lv_aload_n hx hb dJ2_fastRemove_34 rfl (lv_at hl 2 rfl) ?_
    refine lv_aload_n hx hb dJ2_fastRemove_35 rfl (lv_at hl 1 rfl) ?_
    refine lv_iload_n hx hb dJ2_fastRemove_36 rfl (lv_at hl 0 rfl) ?_
    refine lv_dup_x1 hx hb dJ2_fastRemove_37 rfl rfl ?_
    refine mm_put (C := RJ2) (T := TJ2) (N := 3) (ci := 15) (v := .int (nI (n - 1))) (ty := .int) hx hb hts in_J2 tyJ2 tyJ2_ok nmJ2 hown hKK hO hS (Or.inl (Or.inl rfl)) rfl 2 (by decide) (hts _ q212) (fun _ h9 => h9) rfl  (by decide +kernel) (rfl) (rfl) (Nat.le_of_ble_eq_true rfl) dJ2_fastRemove_38 (fun H_38 L_38 hO hz_38 hq_38 hS => ?_)
    have hO : mm_ob G (mm_h H_38) a 15 [.int (mc + (nI 1)), .ref arr, .int (nI (n - 1))] := hO
    have hA := hA.kept (hq_38 _ ((Ne.symm hnea)))
    refine lv_null hx hb dJ2_fastRemove_41 ?_
    refine mm_aastN (k := (n - 1)) hx hb hKK hA hS (Or.inl (Or.inr rfl)) (by omega) (by omega) dJ2_fastRemove_42 (fun H_42 L_42 hA hz_42 hq_42 hS => ?_)
    have hO := hO.kept (hq_42 _ ((Ne.symm hnea).symm))
    exact mm_vret hx hb hr hlk hS (Nat.le_of_ble_eq_true rfl) (Nat.le_of_ble_eq_true rfl) (⟨rfl, hO, by omega, hc16, hnea, .inr ⟨by omega, by rw [← alF_rem0 (by omega)]; exact hA⟩⟩) dJ2_fastRemove_43
  · refine lv_aload_n hx hb dJ2_fastRemove_22 rfl (lv_at hl 2 rfl) ?_
    refine lv_iload_n hx hb dJ2_fastRemove_23 rfl (lv_at hl 3 rfl) ?_
    refine lv_iconst (v := nI 1) hx hb dJ2_fastRemove_24 (by decide) ?_
    refine mm_iadd hx hb dJ2_fastRemove_25 ?_
    refine lv_aload_n hx hb dJ2_fastRemove_26 rfl (lv_at hl 2 rfl) ?_
    refine lv_iload_n hx hb dJ2_fastRemove_27 rfl (lv_at hl 3 rfl) ?_
    refine lv_iload_n hx hb dJ2_fastRemove_28 rfl (lv_at hl 0 rfl) ?_
    refine lv_iload_n hx hb dJ2_fastRemove_29 rfl (lv_at hl 3 rfl) ?_
    refine mm_isub (by omega) hx hb dJ2_fastRemove_30 ?_
    have hWe := hWe.put hq_7 hWa
    have hA0 := hA
    refine mm_copy hx hb (hml.trans hl.1.symm) hown (hts _ q1435) (hts _ q326) (hts _ q325) (hts _ q145) hKK 4 rfl (mk := va_rf) (sp := (i + 1)) (dp := i) (n := ((n - 1) - i)) hA mm_le.rf hA hS (Or.inl (Or.inr rfl)) (by omega) (by omega) (by omega) (by omega) (fun k hk => ⟨mm_fi _ _, by rw [alF_lt (show i + 1 + k < n by omega)]; exact .inr (.inr ⟨_, rfl, rfl, (hel _ (by omega)).any hWe hKK⟩)⟩) (Nat.le_of_ble_eq_true rfl) (Nat.le_of_ble_eq_true rfl) dJ2_fastRemove_31 (fun H_31 L_31 hA hz_31 hq_31 hS => ?_)
    have hO := hO.kept (hq_31 _ ((Ne.symm hnea).symm))
    refine lv_aload_n hx hb dJ2_fastRemove_34 rfl (lv_at hl 2 rfl) ?_
    refine lv_aload_n hx hb dJ2_fastRemove_35 rfl (lv_at hl 1 rfl) ?_
    refine lv_iload_n hx hb dJ2_fastRemove_36 rfl (lv_at hl 0 rfl) ?_
    refine lv_dup_x1 hx hb dJ2_fastRemove_37 rfl rfl ?_
    refine mm_put (C := RJ2) (T := TJ2) (N := 3) (ci := 15) (v := .int (nI (n - 1))) (ty := .int) hx hb hts in_J2 tyJ2 tyJ2_ok nmJ2 hown hKK hO hS (Or.inl (Or.inl rfl)) rfl 2 (by decide) (hts _ q212) (fun _ h9 => h9) rfl  (by decide +kernel) (rfl) (rfl) (Nat.le_of_ble_eq_true rfl) dJ2_fastRemove_38 (fun H_38 L_38 hO hz_38 hq_38 hS => ?_)
    have hO : mm_ob G (mm_h H_38) a 15 [.int (mc + (nI 1)), .ref arr, .int (nI (n - 1))] := hO
    have hA := hA.kept (hq_38 _ ((Ne.symm hnea)))
    refine lv_null hx hb dJ2_fastRemove_41 ?_
    refine mm_aastN (k := (n - 1)) hx hb hKK hA hS (Or.inl (Or.inr rfl)) (by omega) (by omega) dJ2_fastRemove_42 (fun H_42 L_42 hA hz_42 hq_42 hS => ?_)
    have hO := hO.kept (hq_42 _ ((Ne.symm hnea).symm))
    exact mm_vret hx hb hr hlk hS (Nat.le_of_ble_eq_true rfl) (Nat.le_of_ble_eq_true rfl) (⟨rfl, hO, by omega, hc16, hnea, .inr ⟨by omega, by rw [← alF_rem (by omega)]; exact hA⟩⟩) dJ2_fastRemove_43
set_option maxRecDepth 100000 in
theorem a_rem (l : Launch) {G : mm_G} {P : mm_H} {H : Heap} {We : mm_H} {i : Nat} {a arr cap n : Nat} {mc : Int32} {es : Nat → Nat} (hL : AL G (mm_h H) a arr cap mc n es) (hi9 : i < n) (hel : ∀ j, j < n → mm_el G We (es j)) (hWe : mm_le We (mm_h H)) (hWa : We a = none) : Mt l yJ2_remove (ws_ yJ2_remove cJ2_remove 4 (some (.object "java/lang/Object"))) 3 120 0 0 G P [.ref a, .int (nI i)] H (fun q => q = a ∨ q = arr) (mm_r (fun b H1 => b = es i ∧ AL G (mm_h H1) a arr cap (mc + nI 1) (n - 1) (fun j => if j < i then es j else es (j + 1)))) := by
  refine Mt.of (by decide) (Nat.le_of_ble_eq_true rfl) (fun p e s m below meth c ls hx hb hr hlk hml hown hnm hts hKK hsH hl hS => ?_)
  have hl : lv_has ls 4 [(0, .ref a), (1, .int (nI i))] := hl
  have hO := hL.1
  have hnc := hL.2.1
  have hc16 := hL.2.2.1
  have hnea := hL.2.2.2.1
  have hA := hL.q (by omega)
  refine lv_iload_n hx hb dJ2_remove_0 rfl (lv_at hl 1 rfl) ?_
  refine lv_aload_n hx hb dJ2_remove_1 rfl (lv_at hl 0 rfl) ?_
  refine mm_get (C := RJ2) (T := TJ2) (N := 3) (ci := 15) (v := .int (nI n)) hx hb hts in_J2 hown hKK (mm_ob.rb hO) mm_le.rf rfl 2 (by decide) (hts _ q212) (fun _ h9 => h9) rfl dJ2_remove_2 ?_
  refine mm_rpu (va_runS (As := [.int (nI i), .int (nI n)]) (rest := []) ⟨hx, hb, hml, hown, hts⟩ (j_ock l (by omega) (by omega)) (va_cwS 2 hts (lw_S q681 q682 q157 q683) rfl rfl rfl (by decide +kernel) ⟨Nat.le_of_ble_eq_true rfl, Nat.le_of_ble_eq_true rfl⟩) (mm_pS hKK) rfl rfl hl.1 rfl (lv_room (Nat.le_of_ble_eq_true rfl)) dJ2_remove_5 ⟨Nat.le_of_ble_eq_true rfl, Nat.le_of_ble_eq_true rfl⟩) hS (mm_s0 hS) (fun L_5 hS => ?_)
  refine lv_pop hx hb dJ2_remove_8 rfl ?_
  refine lv_aload_n hx hb dJ2_remove_9 rfl (lv_at hl 0 rfl) ?_
  refine mm_get (C := RJ2) (T := TJ2) (N := 3) (ci := 15) (v := .ref arr) hx hb hts in_J2 hown hKK (mm_ob.rb hO) mm_le.rf rfl 1 (by decide) (hts _ q209) (fun _ h9 => h9) rfl dJ2_remove_10 ?_
  refine lv_astore_n (lv' := [(2, .ref arr), (0, .ref a), (1, .int (nI i))]) hx hb dJ2_remove_13 rfl hl (by decide) rfl (fun ls hl => ?_)
  refine lv_aload_n hx hb dJ2_remove_14 rfl (lv_at hl 0 rfl) ?_
  refine lv_iload_n hx hb dJ2_remove_15 rfl (lv_at hl 2 rfl) ?_
  refine mm_aald (k := i) hx hb hKK hA mm_le.rf (by omega) (by omega) dJ2_remove_16 ?_
  refine mm_topv (y := .ref (es i)) (by rw [alF_lt hi9]; rfl) ?_
  refine lv_astore_n (lv' := [(3, .ref (es i)), (2, .ref arr), (0, .ref a), (1, .int (nI i))]) hx hb dJ2_remove_17 rfl hl (by decide) rfl (fun ls hl => ?_)
  refine lv_aload_n hx hb dJ2_remove_18 rfl (lv_at hl 2 rfl) ?_
  refine lv_aload_n hx hb dJ2_remove_19 rfl (lv_at hl 1 rfl) ?_
  refine lv_iload_n hx hb dJ2_remove_20 rfl (lv_at hl 3 rfl) ?_
  refine mm_rv (va_runV (As := [.ref arr, .int (nI i)]) (rest := []) ⟨hx, hb, hml, hown, hts⟩ (a_frem l hL hi9 hel hWe hWa) (cwV 2 hts (lw_V q1431 q1433 qs38 q138 q1434) rfl rfl rfl (by decide +kernel) ⟨Nat.le_of_ble_eq_true rfl, Nat.le_of_ble_eq_true rfl⟩) (mm_pV hKK (mm_rc hKK hO mm_le.rf rfl)) rfl rfl hl.1 rfl (lv_room (Nat.le_of_ble_eq_true rfl)) dJ2_remove_21 ⟨Nat.le_of_ble_eq_true rfl, Nat.le_of_ble_eq_true rfl⟩) hS (mm_sS hS) (fun H_21 L_21 hB_21 hz_21 hq_21 hS => ?_)
  refine lv_aload_n hx hb dJ2_remove_24 rfl (lv_at hl 0 rfl) ?_
  exact mm_aret (v := .ref (es i)) hx hb hr rfl hlk hS (Nat.le_of_ble_eq_true rfl) (Nat.le_of_ble_eq_true rfl) (Or.inr ⟨_, rfl⟩) (⟨_, rfl, rfl, hB_21⟩) dJ2_remove_25
set_option maxRecDepth 100000 in
theorem a_rcf (l : Launch) {G : mm_G} {P : mm_H} {H : Heap} {W : mm_H} {i : Nat} {a arr cap n : Nat} {mc : Int32} {es : Nat → Nat} (hL : AL G W a arr cap mc n es) (hWF : mm_le W (mm_h H)) (hi9 : i ≤ n) : Mt l yJ2_rangeCheckForAdd (ws_ yJ2_rangeCheckForAdd cJ2_rangeCheckForAdd 2 none) 0 0 0 0 G P [.ref a, .int (nI i)] H mm_0 (mm_v (fun H1 => H = H1)) := by
  refine Mt.of (by decide) (Nat.le_of_ble_eq_true rfl) (fun p e s m below meth c ls hx hb hr hlk hml hown hnm hts hKK hsH hl hS => ?_)
  have hl : lv_has ls 2 [(0, .ref a), (1, .int (nI i))] := hl
  have hO := hL.1
  have hnc := hL.2.1
  have hc16 := hL.2.2.1
  have hnea := hL.2.2.2.1
  refine lv_iload_n hx hb dJ2_rangeCheckForAdd_0 rfl (lv_at hl 1 rfl) ?_
  refine lv_aload_n hx hb dJ2_rangeCheckForAdd_1 rfl (lv_at hl 0 rfl) ?_
  refine mm_get (C := RJ2) (T := TJ2) (N := 3) (ci := 15) (v := .int (nI n)) hx hb hts in_J2 hown hKK (mm_ob.rb hO) hWF rfl 2 (by decide) (hts _ q212) (fun _ h9 => h9) rfl dJ2_rangeCheckForAdd_2 ?_
  refine mm_icmp_gt (tgt := 12) (by omega) (by omega) hx hb dJ2_rangeCheckForAdd_5 (by decide) (fun c_5 => ?_) (fun c_5 => ?_)
  · exfalso; omega
  · refine lv_iload_n hx hb dJ2_rangeCheckForAdd_8 rfl (lv_at hl 1 rfl) ?_
    refine mm_if_ge (tgt := 25) (by omega) hx hb dJ2_rangeCheckForAdd_9 (by decide) (fun c_9 => ?_) (fun c_9 => ?_)
    · exact mm_vret hx hb hr hlk hS (Nat.le_of_ble_eq_true rfl) (Nat.le_of_ble_eq_true rfl) (⟨rfl, rfl⟩) dJ2_rangeCheckForAdd_25
    · exact c_9.elim
set_option maxRecDepth 100000 in
theorem a_ins (l : Launch) {G : mm_G} {P : mm_H} {H : Heap} {We : mm_H} {i v : Nat} {a arr cap n : Nat} {mc : Int32} {es : Nat → Nat} (hL : AL G (mm_h H) a arr cap mc n es) (hi9 : i ≤ n) (hel : ∀ j, j < n → mm_el G We (es j)) (hv : mm_el G We v) (hWe : mm_le We (mm_h H)) (hroom : n < cap) (hWa : We a = none) (hWr : We arr = none) : Mt l yJ2_add_3 (ws_ yJ2_add_3 cJ2_add_3 5 none) 3 120 0 0 G P [.ref a, .int (nI i), .ref v] H (fun q => q = a ∨ q = arr) (mm_v (fun H1 => AL G (mm_h H1) a arr cap (mc + nI 1) (n + 1) (fun j => if j < i then es j else if j = i then v else es (j - 1)))) := by
  refine Mt.of (by decide) (Nat.le_of_ble_eq_true rfl) (fun p e s m below meth c ls hx hb hr hlk hml hown hnm hts hKK hsH hl hS => ?_)
  have hl : lv_has ls 5 [(0, .ref a), (1, .int (nI i)), (2, .ref v)] := hl
  have hO := hL.1
  have hnc := hL.2.1
  have hc16 := hL.2.2.1
  have hnea := hL.2.2.2.1
  have hA := hL.q (by omega)
  refine lv_aload_n hx hb dJ2_add_3_0 rfl (lv_at hl 0 rfl) ?_
  refine lv_iload_n hx hb dJ2_add_3_1 rfl (lv_at hl 1 rfl) ?_
  refine mm_rv (va_runV (As := [.int (nI i)]) (rest := []) ⟨hx, hb, hml, hown, hts⟩ (a_rcf l hL mm_le.rf hi9) (cwV 1 hts (lw_V q1445 q1447 qs39 q138 q1448) rfl rfl rfl (by decide +kernel) ⟨Nat.le_of_ble_eq_true rfl, Nat.le_of_ble_eq_true rfl⟩) (mm_pV hKK (mm_rc hKK hO mm_le.rf rfl)) rfl rfl hl.1 rfl (lv_room (Nat.le_of_ble_eq_true rfl)) dJ2_add_3_2 ⟨Nat.le_of_ble_eq_true rfl, Nat.le_of_ble_eq_true rfl⟩) hS (mm_s0 hS) (fun H_2 L_2 hB_2 _ _ hS => ?_)
  subst hB_2
  refine lv_aload_n hx hb dJ2_add_3_5 rfl (lv_at hl 0 rfl) ?_
  refine lv_dup hx hb dJ2_add_3_6 rfl ?_
  refine mm_get (C := RJ2) (T := TJ2) (N := 3) (ci := 15) (v := .int mc) hx hb hts in_J2 hown hKK (mm_ob.rb hO) mm_le.rf rfl 0 (by decide) (hts _ q216) (u_same (hts _ q215)) rfl dJ2_add_3_7 ?_
  refine lv_iconst (v := nI 1) hx hb dJ2_add_3_10 (by decide) ?_
  refine lv_iadd hx hb dJ2_add_3_11 ?_
  refine mm_put (C := RJ2) (T := TJ2) (N := 3) (ci := 15) (v := .int (mc + (nI 1))) (ty := .int) hx hb hts in_J2 tyJ2 tyJ2_ok nmJ2 hown hKK hO hS (Or.inl (Or.inl rfl)) rfl 0 (by decide) (hts _ q216) (u_same (hts _ q215)) rfl  (by decide +kernel) (rfl) (rfl) (Nat.le_of_ble_eq_true rfl) dJ2_add_3_12 (fun H_12 L_12 hO hz_12 hq_12 hS => ?_)
  have hO : mm_ob G (mm_h H_12) a 15 [.int (mc + (nI 1)), .ref arr, .int (nI n)] := hO
  have hA := hA.kept (hq_12 _ ((Ne.symm hnea)))
  refine lv_aload_n hx hb dJ2_add_3_15 rfl (lv_at hl 0 rfl) ?_
  refine mm_get (C := RJ2) (T := TJ2) (N := 3) (ci := 15) (v := .int (nI n)) hx hb hts in_J2 hown hKK (mm_ob.rb hO) mm_le.rf rfl 2 (by decide) (hts _ q212) (fun _ h9 => h9) rfl dJ2_add_3_16 ?_
  refine lv_dup hx hb dJ2_add_3_19 rfl ?_
  refine lv_istore_n (lv' := [(3, .int (nI n)), (0, .ref a), (1, .int (nI i)), (2, .ref v)]) hx hb dJ2_add_3_20 rfl hl (by decide) rfl (fun ls hl => ?_)
  refine lv_aload_n hx hb dJ2_add_3_21 rfl (lv_at hl 1 rfl) ?_
  refine mm_get (C := RJ2) (T := TJ2) (N := 3) (ci := 15) (v := .ref arr) hx hb hts in_J2 hown hKK (mm_ob.rb hO) mm_le.rf rfl 1 (by decide) (hts _ q209) (fun _ h9 => h9) rfl dJ2_add_3_22 ?_
  refine lv_dup hx hb dJ2_add_3_25 rfl ?_
  refine lv_astore (lv' := [(4, .ref arr), (3, .int (nI n)), (0, .ref a), (1, .int (nI i)), (2, .ref v)]) hx hb dJ2_add_3_26 hl (by decide) rfl (fun ls hl => ?_)
  refine mm_alen hx hb hKK 4 rfl hA mm_le.rf dJ2_add_3_28 ?_
  refine mm_icmp_ne (tgt := 38) (by omega) (by omega) hx hb dJ2_add_3_29 (by decide) (fun c_29 => ?_) (fun c_29 => ?_)
  · refine lv_aload hx hb dJ2_add_3_38 (lv_at hl 0 rfl) ?_
    refine lv_iload_n hx hb dJ2_add_3_40 rfl (lv_at hl 3 rfl) ?_
    refine lv_aload hx hb dJ2_add_3_41 (lv_at hl 0 rfl) ?_
    refine lv_iload_n hx hb dJ2_add_3_43 rfl (lv_at hl 3 rfl) ?_
    refine lv_iconst (v := nI 1) hx hb dJ2_add_3_44 (by decide) ?_
    refine mm_iadd hx hb dJ2_add_3_45 ?_
    refine lv_iload_n hx hb dJ2_add_3_46 rfl (lv_at hl 1 rfl) ?_
    refine lv_iload_n hx hb dJ2_add_3_47 rfl (lv_at hl 3 rfl) ?_
    refine mm_isub (by omega) hx hb dJ2_add_3_48 ?_
    have hWe := hWe.put hq_12 hWa
    refine mm_copy hx hb (hml.trans hl.1.symm) hown (hts _ q1435) (hts _ q326) (hts _ q325) (hts _ q145) hKK 4 rfl (mk := va_rf) (sp := i) (dp := (i + 1)) (n := (n - i)) hA mm_le.rf hA hS (Or.inl (Or.inr rfl)) (by omega) (by omega) (by omega) (by omega) (fun k hk => ⟨mm_fi _ _, by rw [alF_lt (show i + k < n by omega)]; exact .inr (.inr ⟨_, rfl, rfl, (hel _ (by omega)).any hWe hKK⟩)⟩) (Nat.le_of_ble_eq_true rfl) (Nat.le_of_ble_eq_true rfl) dJ2_add_3_49 (fun H_49 L_49 hA hz_49 hq_49 hS => ?_)
    have hO := hO.kept (hq_49 _ ((Ne.symm hnea).symm))
    have hWe := hWe.put hq_49 hWr
    refine lv_aload hx hb dJ2_add_3_52 (lv_at hl 0 rfl) ?_
    refine lv_iload_n hx hb dJ2_add_3_54 rfl (lv_at hl 3 rfl) ?_
    refine lv_aload_n hx hb dJ2_add_3_55 rfl (lv_at hl 4 rfl) ?_
    refine mm_aast (k := i) hx hb hKK hA hS (Or.inl (Or.inr rfl)) (by omega) (by omega) hv hWe dJ2_add_3_56 (fun H_56 L_56 hA hz_56 hq_56 hS => ?_)
    have hO := hO.kept (hq_56 _ ((Ne.symm hnea).symm))
    refine lv_aload_n hx hb dJ2_add_3_57 rfl (lv_at hl 2 rfl) ?_
    refine lv_iload_n hx hb dJ2_add_3_58 rfl (lv_at hl 1 rfl) ?_
    refine lv_iconst (v := nI 1) hx hb dJ2_add_3_59 (by decide) ?_
    refine mm_iadd hx hb dJ2_add_3_60 ?_
    refine mm_put (C := RJ2) (T := TJ2) (N := 3) (ci := 15) (v := .int (nI (n + 1))) (ty := .int) hx hb hts in_J2 tyJ2 tyJ2_ok nmJ2 hown hKK hO hS (Or.inl (Or.inl rfl)) rfl 2 (by decide) (hts _ q212) (fun _ h9 => h9) rfl  (by decide +kernel) (rfl) (rfl) (Nat.le_of_ble_eq_true rfl) dJ2_add_3_61 (fun H_61 L_61 hO hz_61 hq_61 hS => ?_)
    have hO : mm_ob G (mm_h H_61) a 15 [.int (mc + (nI 1)), .ref arr, .int (nI (n + 1))] := hO
    have hA := hA.kept (hq_61 _ ((Ne.symm hnea)))
    exact mm_vret hx hb hr hlk hS (Nat.le_of_ble_eq_true rfl) (Nat.le_of_ble_eq_true rfl) (⟨rfl, hO, by omega, hc16, hnea, .inr ⟨by omega, by rw [← alF_ins hi9]; exact hA⟩⟩) dJ2_add_3_64
  · exfalso; omega
set_option maxRecDepth 100000 in
theorem j_intv (l : Launch) {G : mm_G} {P : mm_H} {H : Heap} {W : mm_H} {a : Nat} {v : Int32} (hI : mm_in G W a v) (hWF : mm_le W (mm_h H)) : Mt l yJ4_intValue (ws_ yJ4_intValue cJ4_intValue 1 (some .int)) 0 0 0 0 G P [.ref a] H mm_0 (mm_pu (.int v) H) := by
  refine Mt.of (by decide) (Nat.le_of_ble_eq_true rfl) (fun p e s m below meth c ls hx hb hr hlk hml hown hnm hts hKK hsH hl hS => ?_)
  have hl : lv_has ls 1 [(0, .ref a)] := hl
  refine lv_aload_n hx hb dJ4_intValue_0 rfl (lv_at hl 0 rfl) ?_
  refine mm_get (C := RJ4) (T := TJ4) (N := 1) (ci := 20) (v := .int v) hx hb hts in_J4 hown hKK (hI) hWF rfl 0 (by decide) (hts _ q242) (fun _ h9 => h9) rfl dJ4_intValue_1 ?_
  exact mm_iret (v := v) hx hb hr hlk hS (Nat.le_of_ble_eq_true rfl) (Nat.le_of_ble_eq_true rfl) (⟨rfl, rfl⟩) dJ4_intValue_4
set_option maxRecDepth 100000 in
theorem j_cmp (l : Launch) {G : mm_G} {P : mm_H} {H : Heap} {v u : Int32}  : Mt l yJ4_compare (ws_ yJ4_compare cJ4_compare 2 (some .int)) 0 0 0 0 G P [.int v, .int u] H mm_0 (mm_pu (.int (cmpI v u)) H) := by
  refine Mt.of (by decide) (Nat.le_of_ble_eq_true rfl) (fun p e s m below meth c ls hx hb hr hlk hml hown hnm hts hKK hsH hl hS => ?_)
  have hl : lv_has ls 2 [(0, .int v), (1, .int u)] := hl
  refine lv_iload_n hx hb dJ4_compare_0 rfl (lv_at hl 0 rfl) ?_
  refine lv_iload_n hx hb dJ4_compare_1 rfl (lv_at hl 1 rfl) ?_
  refine lv_icmp_ge (tgt := 9) hx hb dJ4_compare_2 (by decide) (fun c_2 => ?_) (fun c_2 => ?_)
  · refine lv_iload_n hx hb dJ4_compare_9 rfl (lv_at hl 0 rfl) ?_
    refine lv_iload_n hx hb dJ4_compare_10 rfl (lv_at hl 1 rfl) ?_
    refine lv_icmp_ne (tgt := 18) hx hb dJ4_compare_11 (by decide) (fun c_11 => ?_) (fun c_11 => ?_)
    · refine lv_iconst (v := nI 1) hx hb dJ4_compare_18 (by decide) ?_
      exact mm_iret (v := nI 1) hx hb hr hlk hS (Nat.le_of_ble_eq_true rfl) (Nat.le_of_ble_eq_true rfl) (⟨by unfold cmpI; first | (rw [if_pos (Int32.not_le.mp c_2)]; done) | (rw [if_neg (Int32.not_lt.mpr c_2), if_pos c_11]; rfl) | (rw [if_neg (Int32.not_lt.mpr c_2), if_neg c_11]; rfl), rfl⟩) dJ4_compare_19
    · refine lv_iconst (v := nI 0) hx hb dJ4_compare_14 (by decide) ?_
      refine lv_goto (tgt := 19) hx hb dJ4_compare_15 (by decide) ?_
      exact mm_iret (v := nI 0) hx hb hr hlk hS (Nat.le_of_ble_eq_true rfl) (Nat.le_of_ble_eq_true rfl) (⟨by unfold cmpI; first | (rw [if_pos (Int32.not_le.mp c_2)]; done) | (rw [if_neg (Int32.not_lt.mpr c_2), if_pos c_11]; rfl) | (rw [if_neg (Int32.not_lt.mpr c_2), if_neg c_11]; rfl), rfl⟩) dJ4_compare_19
  · refine lv_iconst (v := (-1)) hx hb dJ4_compare_5 (by decide) ?_
    refine lv_goto (tgt := 19) hx hb dJ4_compare_6 (by decide) ?_
    exact mm_iret (v := (-1)) hx hb hr hlk hS (Nat.le_of_ble_eq_true rfl) (Nat.le_of_ble_eq_true rfl) (⟨by unfold cmpI; first | (rw [if_pos (Int32.not_le.mp c_2)]; done) | (rw [if_neg (Int32.not_lt.mpr c_2), if_pos c_11]; rfl) | (rw [if_neg (Int32.not_lt.mpr c_2), if_neg c_11]; rfl), rfl⟩) dJ4_compare_19
set_option maxRecDepth 100000 in
theorem j_cmp2 (l : Launch) {G : mm_G} {P : mm_H} {H : Heap} {W : mm_H} {a b : Nat} {v u : Int32} (hI : mm_in G W a v) (hJ : mm_in G W b u) (hWF : mm_le W (mm_h H)) : Mt l yJ4_compareTo_2 (ws_ yJ4_compareTo_2 cJ4_compareTo_2 2 (some .int)) 1 30 0 0 G P [.ref a, .ref b] H mm_0 (mm_pu (.int (cmpI v u)) H) := by
  refine Mt.of (by decide) (Nat.le_of_ble_eq_true rfl) (fun p e s m below meth c ls hx hb hr hlk hml hown hnm hts hKK hsH hl hS => ?_)
  have hl : lv_has ls 2 [(0, .ref a), (1, .ref b)] := hl
  refine lv_aload_n hx hb dJ4_compareTo_2_0 rfl (lv_at hl 0 rfl) ?_
  refine mm_get (C := RJ4) (T := TJ4) (N := 1) (ci := 20) (v := .int v) hx hb hts in_J4 hown hKK (hI) hWF rfl 0 (by decide) (hts _ q242) (fun _ h9 => h9) rfl dJ4_compareTo_2_1 ?_
  refine lv_aload_n hx hb dJ4_compareTo_2_4 rfl (lv_at hl 1 rfl) ?_
  refine mm_get (C := RJ4) (T := TJ4) (N := 1) (ci := 20) (v := .int u) hx hb hts in_J4 hown hKK (hJ) hWF rfl 0 (by decide) (hts _ q242) (fun _ h9 => h9) rfl dJ4_compareTo_2_5 ?_
  refine mm_rpu (va_runS (As := [.int v, .int u]) (rest := []) ⟨hx, hb, hml, hown, hts⟩ (j_cmp l ) (va_cwS 2 hts (lw_S q1986 q1987 q140 q1988) rfl rfl rfl (by decide +kernel) ⟨Nat.le_of_ble_eq_true rfl, Nat.le_of_ble_eq_true rfl⟩) (mm_pS hKK) rfl rfl hl.1 rfl (lv_room (Nat.le_of_ble_eq_true rfl)) dJ4_compareTo_2_8 ⟨Nat.le_of_ble_eq_true rfl, Nat.le_of_ble_eq_true rfl⟩) hS (mm_s0 hS) (fun L_8 hS => ?_)
  exact mm_iret (v := cmpI v u) hx hb hr hlk hS (Nat.le_of_ble_eq_true rfl) (Nat.le_of_ble_eq_true rfl) (⟨rfl, rfl⟩) dJ4_compareTo_2_11
set_option maxRecDepth 100000 in
theorem j_cmpO (l : Launch) {G : mm_G} {P : mm_H} {H : Heap} {W : mm_H} {a b : Nat} {v u : Int32} (hI : mm_in G W a v) (hJ : mm_in G W b u) (hWF : mm_le W (mm_h H)) : Mt l yJ4_compareTo (ws_ yJ4_compareTo cJ4_compareTo 2 (some .int)) 2 60 0 0 G P [.ref a, .ref b] H mm_0 (mm_pu (.int (cmpI v u)) H) := by
  refine Mt.of (by decide) (Nat.le_of_ble_eq_true rfl) (fun p e s m below meth c ls hx hb hr hlk hml hown hnm hts hKK hsH hl hS => ?_)
  have hl : lv_has ls 2 [(0, .ref a), (1, .ref b)] := hl
  refine lv_aload_n hx hb dJ4_compareTo_0 rfl (lv_at hl 0 rfl) ?_
  refine lv_aload_n hx hb dJ4_compareTo_1 rfl (lv_at hl 1 rfl) ?_
  refine va_castS hx hb hown (hts _ q233) (hKK.K.1 20 _ rfl).2 (mm_rcb hKK hJ hWF rfl) dJ4_compareTo_2 ?_
  refine mm_rpu (va_runV (As := [.ref b]) (rest := []) ⟨hx, hb, hml, hown, hts⟩ (j_cmp2 l hI hJ hWF) (cwV 1 hts (lw_V q1982 q1983 q1984 q140 q1985) rfl rfl rfl (by decide +kernel) ⟨Nat.le_of_ble_eq_true rfl, Nat.le_of_ble_eq_true rfl⟩) (mm_pV hKK (mm_rcb hKK hI hWF rfl)) rfl rfl hl.1 rfl (lv_room (Nat.le_of_ble_eq_true rfl)) dJ4_compareTo_5 ⟨Nat.le_of_ble_eq_true rfl, Nat.le_of_ble_eq_true rfl⟩) hS (mm_s0 hS) (fun L_5 hS => ?_)
  exact mm_iret (v := cmpI v u) hx hb hr hlk hS (Nat.le_of_ble_eq_true rfl) (Nat.le_of_ble_eq_true rfl) (⟨rfl, rfl⟩) dJ4_compareTo_8
set_option maxRecDepth 100000 in
theorem j_num (l : Launch) {G : mm_G} {P : mm_H} {H : Heap} {a : Nat}  : Mt l yJ3_init (ws_ yJ3_init cJ3_init 1 none) 1 30 0 0 G P [.ref a] H mm_0 (mm_v (fun H1 => H = H1)) := by
  refine Mt.of (by decide) (Nat.le_of_ble_eq_true rfl) (fun p e s m below meth c ls hx hb hr hlk hml hown hnm hts hKK hsH hl hS => ?_)
  have hl : lv_has ls 1 [(0, .ref a)] := hl
  refine lv_aload_n hx hb dJ3_init_0 rfl (lv_at hl 0 rfl) ?_
  refine W.objInit hx hb hown (hts _ q241) (hts _ q190) (hts _ q191) rfl (by rw [hml]; exact hl.1) rfl dJ3_init_1 (Nat.le_of_ble_eq_true rfl) (Nat.le_of_ble_eq_true rfl) ?_
  exact mm_vret hx hb hr hlk hS (Nat.le_of_ble_eq_true rfl) (Nat.le_of_ble_eq_true rfl) (⟨rfl, rfl⟩) dJ3_init_4
set_option maxRecDepth 100000 in
theorem j_int0 (l : Launch) {G : mm_G} {P : mm_H} {H : Heap} {a : Nat} {v : Int32} (hO : mm_ob G (mm_h H) a 20 [.int 0]) : Mt l yJ4_init (ws_ yJ4_init cJ4_init 2 none) 2 60 0 0 G P [.ref a, .int v] H (fun q => q = a) (mm_v (fun H1 => mm_ob G (mm_h H1) a 20 [.int v])) := by
  refine Mt.of (by decide) (Nat.le_of_ble_eq_true rfl) (fun p e s m below meth c ls hx hb hr hlk hml hown hnm hts hKK hsH hl hS => ?_)
  have hl : lv_has ls 2 [(0, .ref a), (1, .int v)] := hl
  refine lv_aload_n hx hb dJ4_init_0 rfl (lv_at hl 0 rfl) ?_
  refine mm_rv (va_runI (As := []) (rest := []) ⟨hx, hb, hml, hown, hts⟩ (j_num l ) (cwI 0 hts (lw_meth q240) rfl rfl rfl (hts _ q139) (hts _ q238) (hts _ q239) rfl (by decide +kernel) ⟨Nat.le_of_ble_eq_true rfl, Nat.le_of_ble_eq_true rfl⟩) (mm_pS hKK) rfl rfl hl.1 rfl (lv_room (Nat.le_of_ble_eq_true rfl)) dJ4_init_1 ⟨Nat.le_of_ble_eq_true rfl, Nat.le_of_ble_eq_true rfl⟩) hS (mm_s0 hS) (fun H_1 L_1 hB_1 _ _ hS => ?_)
  subst hB_1
  refine lv_aload_n hx hb dJ4_init_4 rfl (lv_at hl 0 rfl) ?_
  refine lv_iload_n hx hb dJ4_init_5 rfl (lv_at hl 1 rfl) ?_
  refine mm_putF (C := RJ4) (T := TJ4) (N := 1) (ci := 20) (v := .int v) (ty := .int) hx hb hts in_J4 tyJ4 tyJ4_ok nmJ4 hown hKK hO hS (Or.inl rfl) rfl 0 (by decide) (hts _ q242) (fun _ h9 => h9) rfl hnm rfl (by decide +kernel) (rfl) (rfl) (Nat.le_of_ble_eq_true rfl) dJ4_init_6 (fun H_6 L_6 hO hz_6 hq_6 hS => ?_)
  have hO : mm_ob G (mm_h H_6) a 20 [.int v] := hO
  exact mm_vret hx hb hr hlk hS (Nat.le_of_ble_eq_true rfl) (Nat.le_of_ble_eq_true rfl) (⟨rfl, hO⟩) dJ4_init_9
set_option maxRecDepth 100000 in
theorem j_vof (l : Launch) {G : mm_G} {P : mm_H} {H : Heap} {v : Int32} (hF : mm_le P (mm_h H)) : Mt l yJ4_valueOf (ws_ yJ4_valueOf cJ4_valueOf 1 (some (.object "java/lang/Integer"))) 3 90 1 1 G P [.int v] H mm_0 (mm_r (fun b H1 => mm_in G (mm_h H1) b v)) := by
  refine Mt.of (by decide) (Nat.le_of_ble_eq_true rfl) (fun p e s m below meth c ls hx hb hr hlk hml hown hnm hts hKK hsH hl hS => ?_)
  have hl : lv_has ls 1 [(0, .int v)] := hl
  refine lv_iload_n hx hb dJ4_valueOf_0 rfl (lv_at hl 0 rfl) ?_
  refine lv_bipush (v := (-128)) hx hb dJ4_valueOf_1 (by decide) ?_
  refine lv_icmp_lt (tgt := 23) hx hb dJ4_valueOf_3 (by decide) (fun c_3 => ?_) (fun c_3 => ?_)
  · have hs1 := hS.1
    refine mm_new (C := RJ4) (T := TJ4) (N := 1) (ci := 20) (fs := [.int (nI 0)]) hx hb hts in_J4 tyJ4 tyJ4_ok hown (hts _ q233) (hts _ q234) (hts _ q140) hKK hS rfl (fun j hj => by match j, hj with | 0, _ => rfl | n + 1, h => exact absurd h (by omega)) (Nat.le_of_ble_eq_true rfl) (Nat.le_of_ble_eq_true rfl) dJ4_valueOf_23 (fun o_23 H_23 ea_23 ho_23 hz_23 hq_23 hS => ?_)
    have hle_o_23 : H.size ≤ o_23 := by rw [ea_23]; exact hs1
    refine lv_dup hx hb dJ4_valueOf_26 rfl ?_
    refine lv_iload_n hx hb dJ4_valueOf_27 rfl (lv_at hl 0 rfl) ?_
    refine mm_rv (va_runI (As := [.int v]) (rest := [.ref o_23]) ⟨hx, hb, hml, hown, hts⟩ (j_int0 l ho_23) (cwI 1 hts (lw_meth q237) rfl rfl rfl (hts _ q140) (hts _ q235) (hts _ q236) rfl (by decide +kernel) ⟨Nat.le_of_ble_eq_true rfl, Nat.le_of_ble_eq_true rfl⟩) (mm_pS hKK) rfl rfl hl.1 rfl (lv_room (Nat.le_of_ble_eq_true rfl)) dJ4_valueOf_28 ⟨Nat.le_of_ble_eq_true rfl, Nat.le_of_ble_eq_true rfl⟩) hS (mm_sM hS (fun q z => Or.inr (by rw [z]; exact hle_o_23))) (fun H_28 L_28 hB_28 hz_28 hq_28 hS => ?_)
    exact mm_aret (v := .ref o_23) hx hb hr rfl hlk hS (Nat.le_of_ble_eq_true rfl) (Nat.le_of_ble_eq_true rfl) (Or.inr ⟨_, rfl⟩) (⟨_, rfl, mm_ob.rb hB_28⟩) dJ4_valueOf_31
  · refine lv_iload_n hx hb dJ4_valueOf_6 rfl (lv_at hl 0 rfl) ?_
    refine mm_gets (v := .int (nI 127)) hx hb hKK.I.1 hF hown (hts _ q229) (fun _ h9 => h9) dJ4_valueOf_7 ?_
    refine lv_icmp_gt (tgt := 23) hx hb dJ4_valueOf_10 (by decide) (fun c_10 => ?_) (fun c_10 => ?_)
    · have hs1 := hS.1
      refine mm_new (C := RJ4) (T := TJ4) (N := 1) (ci := 20) (fs := [.int (nI 0)]) hx hb hts in_J4 tyJ4 tyJ4_ok hown (hts _ q233) (hts _ q234) (hts _ q140) hKK hS rfl (fun j hj => by match j, hj with | 0, _ => rfl | n + 1, h => exact absurd h (by omega)) (Nat.le_of_ble_eq_true rfl) (Nat.le_of_ble_eq_true rfl) dJ4_valueOf_23 (fun o_23 H_23 ea_23 ho_23 hz_23 hq_23 hS => ?_)
      have hle_o_23 : H.size ≤ o_23 := by rw [ea_23]; exact hs1
      refine lv_dup hx hb dJ4_valueOf_26 rfl ?_
      refine lv_iload_n hx hb dJ4_valueOf_27 rfl (lv_at hl 0 rfl) ?_
      refine mm_rv (va_runI (As := [.int v]) (rest := [.ref o_23]) ⟨hx, hb, hml, hown, hts⟩ (j_int0 l ho_23) (cwI 1 hts (lw_meth q237) rfl rfl rfl (hts _ q140) (hts _ q235) (hts _ q236) rfl (by decide +kernel) ⟨Nat.le_of_ble_eq_true rfl, Nat.le_of_ble_eq_true rfl⟩) (mm_pS hKK) rfl rfl hl.1 rfl (lv_room (Nat.le_of_ble_eq_true rfl)) dJ4_valueOf_28 ⟨Nat.le_of_ble_eq_true rfl, Nat.le_of_ble_eq_true rfl⟩) hS (mm_sM hS (fun q z => Or.inr (by rw [z]; exact hle_o_23))) (fun H_28 L_28 hB_28 hz_28 hq_28 hS => ?_)
      exact mm_aret (v := .ref o_23) hx hb hr rfl hlk hS (Nat.le_of_ble_eq_true rfl) (Nat.le_of_ble_eq_true rfl) (Or.inr ⟨_, rfl⟩) (⟨_, rfl, mm_ob.rb hB_28⟩) dJ4_valueOf_31
    · refine mm_gets (v := .ref (G.2.2 2)) hx hb hKK.I.2.1 hF hown (hts _ q231) (fun _ h9 => h9) dJ4_valueOf_13 ?_
      refine lv_iload_n hx hb dJ4_valueOf_16 rfl (lv_at hl 0 rfl) ?_
      refine lv_sipush (v := nI 128) hx hb dJ4_valueOf_17 (by decide) ?_
      refine lv_iadd hx hb dJ4_valueOf_20 ?_
      obtain ⟨k9, hk9, hke, hkv⟩ := in_128 c_3 c_10
      refine mm_top (y := nI k9) hke ?_
      refine mm_Taald (k := k9) (f := fun k => some (G.2.2 (1000 + k))) hx hb hKK.I.2.2.1 hF hk9 (by decide) dJ4_valueOf_21 ?_
      exact mm_aret (v := .ref (G.2.2 (1000 + k9))) hx hb hr rfl hlk hS (Nat.le_of_ble_eq_true rfl) (Nat.le_of_ble_eq_true rfl) (Or.inr ⟨_, rfl⟩) (⟨_, rfl, by have := (hKK.I.2.2.2 k9 hk9).mono hF; rw [hkv] at this; exact this⟩) dJ4_valueOf_22
