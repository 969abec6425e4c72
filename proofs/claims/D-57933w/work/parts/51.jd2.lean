/-! lists (printed by tools/jd2.py) -/
set_option maxRecDepth 100000 in
theorem j_ock (l : Launch) {G : mm_G} {P : mm_H} {H : Heap} {i n : Nat} (hi9 : i < n) (hn9 : n < 2 ^ 31) : Mt l yJ18_checkIndex (ws_ yJ18_checkIndex cJ18_checkIndex 2 (some .int)) 1 24 0 0 G P [.int (nI i), .int (nI n)] H mm_0 (mm_pu (.int (nI i)) H) := by
  refine Mt.of (by decide) (Nat.le_of_ble_eq_true rfl) (fun p e s m below meth c ls hx hb hr hlk hml hown hnm hts hKK hsH hl hS => ?_)
  have hl : lv_has ls 2 [(0, .int (nI i)), (1, .int (nI n))] := hl
  refine lv_iload_n hx hb dJ18_checkIndex_0 rfl (lv_at hl 0 rfl) ?_
  refine lv_iload_n hx hb dJ18_checkIndex_1 rfl (lv_at hl 1 rfl) ?_
  refine lv_null hx hb dJ18_checkIndex_2 ?_
  refine mm_rpu (va_runS (As := [.int (nI i), .int (nI n), .null]) (rest := []) ⟨hx, hb, hml, hown, hts⟩ (j_pck l (o := none) (by omega) (by omega)) (va_cwS 3 hts (lw_S q684 q685 q155 q686) rfl rfl rfl (by decide +kernel) ⟨Nat.le_of_ble_eq_true rfl, Nat.le_of_ble_eq_true rfl⟩) (mm_pS hKK) rfl rfl hl.1 rfl (lv_room (Nat.le_of_ble_eq_true rfl)) dJ18_checkIndex_3 ⟨Nat.le_of_ble_eq_true rfl, Nat.le_of_ble_eq_true rfl⟩) hS (mm_s0 hS) (fun L_3 hS => ?_)
  exact mm_iret (v := nI i) hx hb hr hlk hS (Nat.le_of_ble_eq_true rfl) (Nat.le_of_ble_eq_true rfl) (⟨rfl, rfl⟩) dJ18_checkIndex_6
set_option maxRecDepth 100000 in
theorem a_size (l : Launch) {G : mm_G} {P : mm_H} {H : Heap} {W : mm_H} {a arr cap n : Nat} {mc : Int32} {es : Nat → Nat} (hL : AL G W a arr cap mc n es) (hWF : mm_le W (mm_h H)) : Mt l yJ2_size (ws_ yJ2_size cJ2_size 1 (some .int)) 0 0 0 0 G P [.ref a] H mm_0 (mm_pu (.int (nI n)) H) := by
  refine Mt.of (by decide) (Nat.le_of_ble_eq_true rfl) (fun p e s m below meth c ls hx hb hr hlk hml hown hnm hts hKK hsH hl hS => ?_)
  have hl : lv_has ls 1 [(0, .ref a)] := hl
  have hO := hL.1
  have hnc := hL.2.1
  have hc16 := hL.2.2.1
  have hnea := hL.2.2.2.1
  refine lv_aload_n hx hb dJ2_size_0 rfl (lv_at hl 0 rfl) ?_
  refine mm_get (C := RJ2) (T := TJ2) (N := 3) (ci := 15) (v := .int (nI n)) hx hb hts in_J2 hown hKK (mm_ob.rb hO) hWF rfl 2 (by decide) (hts _ q212) (fun _ h9 => h9) rfl dJ2_size_1 ?_
  exact mm_iret (v := nI n) hx hb hr hlk hS (Nat.le_of_ble_eq_true rfl) (Nat.le_of_ble_eq_true rfl) (⟨rfl, rfl⟩) dJ2_size_4
set_option maxRecDepth 100000 in
theorem a_isEmpty (l : Launch) {G : mm_G} {P : mm_H} {H : Heap} {W : mm_H} {a arr cap n : Nat} {mc : Int32} {es : Nat → Nat} (hL : AL G W a arr cap mc n es) (hWF : mm_le W (mm_h H)) : Mt l yJ2_isEmpty (ws_ yJ2_isEmpty cJ2_isEmpty 1 (some .boolean)) 0 0 0 0 G P [.ref a] H mm_0 (mm_pu (.int (mm_b (decide (n = 0)))) H) := by
  refine Mt.of (by decide) (Nat.le_of_ble_eq_true rfl) (fun p e s m below meth c ls hx hb hr hlk hml hown hnm hts hKK hsH hl hS => ?_)
  have hl : lv_has ls 1 [(0, .ref a)] := hl
  have hO := hL.1
  have hnc := hL.2.1
  have hc16 := hL.2.2.1
  have hnea := hL.2.2.2.1
  refine lv_aload_n hx hb dJ2_isEmpty_0 rfl (lv_at hl 0 rfl) ?_
  refine mm_get (C := RJ2) (T := TJ2) (N := 3) (ci := 15) (v := .int (nI n)) hx hb hts in_J2 hown hKK (mm_ob.rb hO) hWF rfl 2 (by decide) (hts _ q212) (fun _ h9 => h9) rfl dJ2_isEmpty_1 ?_
  refine mm_if_ne (tgt := 11) (by omega) hx hb dJ2_isEmpty_4 (by decide) (fun c_4 => ?_) (fun c_4 => ?_)
  · refine lv_iconst (v := nI 0) hx hb dJ2_isEmpty_11 (by decide) ?_
    refine mm_top (y := mm_b false) rfl ?_
    exact mm_zret (v := mm_b false) hx hb hr hlk hS (Nat.le_of_ble_eq_true rfl) (Nat.le_of_ble_eq_true rfl) (mm_nb _) (⟨by first | exact mm_d1 c_4 | exact mm_d0 c_4, rfl⟩) dJ2_isEmpty_12
  · refine lv_iconst (v := nI 1) hx hb dJ2_isEmpty_7 (by decide) ?_
    refine mm_top (y := mm_b true) rfl ?_
    refine lv_goto (tgt := 12) hx hb dJ2_isEmpty_8 (by decide) ?_
    exact mm_zret (v := mm_b true) hx hb hr hlk hS (Nat.le_of_ble_eq_true rfl) (Nat.le_of_ble_eq_true rfl) (mm_nb _) (⟨by first | exact mm_d1 c_4 | exact mm_d0 c_4, rfl⟩) dJ2_isEmpty_12
set_option maxRecDepth 100000 in
theorem a_ed (l : Launch) {G : mm_G} {P : mm_H} {H : Heap} {W : mm_H} {a arr cap n : Nat} {mc : Int32} {es : Nat → Nat} {i : Nat} (hL : AL G W a arr cap mc n es) (hWF : mm_le W (mm_h H)) (hi9 : i < n) : Mt l yJ2_elementData (ws_ yJ2_elementData cJ2_elementData 2 (some (.object "java/lang/Object"))) 0 0 0 0 G P [.ref a, .int (nI i)] H mm_0 (mm_pu (.ref (es i)) H) := by
  refine Mt.of (by decide) (Nat.le_of_ble_eq_true rfl) (fun p e s m below meth c ls hx hb hr hlk hml hown hnm hts hKK hsH hl hS => ?_)
  have hl : lv_has ls 2 [(0, .ref a), (1, .int (nI i))] := hl
  have hO := hL.1
  have hnc := hL.2.1
  have hc16 := hL.2.2.1
  have hnea := hL.2.2.2.1
  have hA := hL.q (by omega)
  refine lv_aload_n hx hb dJ2_elementData_0 rfl (lv_at hl 0 rfl) ?_
  refine mm_get (C := RJ2) (T := TJ2) (N := 3) (ci := 15) (v := .ref arr) hx hb hts in_J2 hown hKK (mm_ob.rb hO) hWF rfl 1 (by decide) (hts _ q209) (fun _ h9 => h9) rfl dJ2_elementData_1 ?_
  refine lv_iload_n hx hb dJ2_elementData_4 rfl (lv_at hl 1 rfl) ?_
  refine mm_aald (k := i) hx hb hKK hA hWF (by omega) (by omega) dJ2_elementData_5 ?_
  refine mm_topv (y := .ref (es i)) (by rw [alF_lt hi9]; rfl) ?_
  exact mm_aret (v := .ref (es i)) hx hb hr rfl hlk hS (Nat.le_of_ble_eq_true rfl) (Nat.le_of_ble_eq_true rfl) (Or.inr ⟨_, rfl⟩) (⟨rfl, rfl⟩) dJ2_elementData_6
set_option maxRecDepth 100000 in
theorem a_get (l : Launch) {G : mm_G} {P : mm_H} {H : Heap} {W : mm_H} {a arr cap n : Nat} {mc : Int32} {es : Nat → Nat} {i : Nat} (hL : AL G W a arr cap mc n es) (hWF : mm_le W (mm_h H)) (hi9 : i < n) : Mt l yJ2_get (ws_ yJ2_get cJ2_get 2 (some (.object "java/lang/Object"))) 2 60 0 0 G P [.ref a, .int (nI i)] H mm_0 (mm_pu (.ref (es i)) H) := by
  refine Mt.of (by decide) (Nat.le_of_ble_eq_true rfl) (fun p e s m below meth c ls hx hb hr hlk hml hown hnm hts hKK hsH hl hS => ?_)
  have hl : lv_has ls 2 [(0, .ref a), (1, .int (nI i))] := hl
  have hO := hL.1
  have hnc := hL.2.1
  have hc16 := hL.2.2.1
  have hnea := hL.2.2.2.1
  refine lv_iload_n hx hb dJ2_get_0 rfl (lv_at hl 1 rfl) ?_
  refine lv_aload_n hx hb dJ2_get_1 rfl (lv_at hl 0 rfl) ?_
  refine mm_get (C := RJ2) (T := TJ2) (N := 3) (ci := 15) (v := .int (nI n)) hx hb hts in_J2 hown hKK (mm_ob.rb hO) hWF rfl 2 (by decide) (hts _ q212) (fun _ h9 => h9) rfl dJ2_get_2 ?_
  refine mm_rpu (va_runS (As := [.int (nI i), .int (nI n)]) (rest := []) ⟨hx, hb, hml, hown, hts⟩ (j_ock l (by omega) (by omega)) (va_cwS 2 hts (lw_S q681 q682 q157 q683) rfl rfl rfl (by decide +kernel) ⟨Nat.le_of_ble_eq_true rfl, Nat.le_of_ble_eq_true rfl⟩) (mm_pS hKK) rfl rfl hl.1 rfl (lv_room (Nat.le_of_ble_eq_true rfl)) dJ2_get_5 ⟨Nat.le_of_ble_eq_true rfl, Nat.le_of_ble_eq_true rfl⟩) hS (mm_s0 hS) (fun L_5 hS => ?_)
  refine lv_pop hx hb dJ2_get_8 rfl ?_
  refine lv_aload_n hx hb dJ2_get_9 rfl (lv_at hl 0 rfl) ?_
  refine lv_iload_n hx hb dJ2_get_10 rfl (lv_at hl 1 rfl) ?_
  refine mm_rpu (va_runV (As := [.int (nI i)]) (rest := []) ⟨hx, hb, hml, hown, hts⟩ (a_ed l hL hWF hi9) (cwV 1 hts (lw_V q687 q688 q689 q138 q690) rfl rfl rfl (by decide +kernel) ⟨Nat.le_of_ble_eq_true rfl, Nat.le_of_ble_eq_true rfl⟩) (mm_pV hKK (mm_rc hKK hO hWF rfl)) rfl rfl hl.1 rfl (lv_room (Nat.le_of_ble_eq_true rfl)) dJ2_get_11 ⟨Nat.le_of_ble_eq_true rfl, Nat.le_of_ble_eq_true rfl⟩) hS (mm_s0 hS) (fun L_11 hS => ?_)
  exact mm_aret (v := .ref (es i)) hx hb hr rfl hlk hS (Nat.le_of_ble_eq_true rfl) (Nat.le_of_ble_eq_true rfl) (Or.inr ⟨_, rfl⟩) (⟨rfl, rfl⟩) dJ2_get_14
set_option maxRecDepth 100000 in
theorem a_c0 (l : Launch) {G : mm_G} {P : mm_H} {H : Heap} {a : Nat}  : Mt l yJ0_init (ws_ yJ0_init cJ0_init 1 none) 1 30 0 0 G P [.ref a] H mm_0 (mm_v (fun H1 => H = H1)) := by
  refine Mt.of (by decide) (Nat.le_of_ble_eq_true rfl) (fun p e s m below meth c ls hx hb hr hlk hml hown hnm hts hKK hsH hl hS => ?_)
  have hl : lv_has ls 1 [(0, .ref a)] := hl
  refine lv_aload_n hx hb dJ0_init_0 rfl (lv_at hl 0 rfl) ?_
  refine W.objInit hx hb hown (hts _ q206) (hts _ q190) (hts _ q191) rfl (by rw [hml]; exact hl.1) rfl dJ0_init_1 (Nat.le_of_ble_eq_true rfl) (Nat.le_of_ble_eq_true rfl) ?_
  exact mm_vret hx hb hr hlk hS (Nat.le_of_ble_eq_true rfl) (Nat.le_of_ble_eq_true rfl) (⟨rfl, rfl⟩) dJ0_init_4
set_option maxRecDepth 100000 in
theorem a_c1 (l : Launch) {G : mm_G} {P : mm_H} {H : Heap} {a : Nat} (hF : mm_le P (mm_h H)) (hO : mm_ob G (mm_h H) a 15 [.int 0, .null, .int 0]) : Mt l yJ1_init (ws_ yJ1_init cJ1_init 1 none) 2 60 0 0 G P [.ref a] H (fun q => q = a) (mm_v (fun H1 => mm_ob G (mm_h H1) a 15 [.int 0, .null, .int 0])) := by
  refine Mt.of (by decide) (Nat.le_of_ble_eq_true rfl) (fun p e s m below meth c ls hx hb hr hlk hml hown hnm hts hKK hsH hl hS => ?_)
  have hl : lv_has ls 1 [(0, .ref a)] := hl
  refine lv_aload_n hx hb dJ1_init_0 rfl (lv_at hl 0 rfl) ?_
  refine mm_rv (va_runI (As := []) (rest := []) ⟨hx, hb, hml, hown, hts⟩ (a_c0 l ) (cwI 0 hts (lw_meth q205) rfl rfl rfl (hts _ q136) (hts _ q203) (hts _ q204) rfl (by decide +kernel) ⟨Nat.le_of_ble_eq_true rfl, Nat.le_of_ble_eq_true rfl⟩) (mm_pS hKK) rfl rfl hl.1 rfl (lv_room (Nat.le_of_ble_eq_true rfl)) dJ1_init_1 ⟨Nat.le_of_ble_eq_true rfl, Nat.le_of_ble_eq_true rfl⟩) hS (mm_s0 hS) (fun H_1 L_1 hB_1 _ _ hS => ?_)
  subst hB_1
  refine lv_aload_n hx hb dJ1_init_4 rfl (lv_at hl 0 rfl) ?_
  refine lv_iconst (v := nI 0) hx hb dJ1_init_5 (by decide) ?_
  refine mm_put (C := RJ2) (T := TJ2) (N := 3) (ci := 15) (v := .int (nI 0)) (ty := .int) hx hb hts in_J2 tyJ2 tyJ2_ok nmJ2 hown hKK hO hS (Or.inl rfl) rfl 0 (by decide) (hts _ q213) (fun _ h9 => h9) rfl  (by decide +kernel) (rfl) (rfl) (Nat.le_of_ble_eq_true rfl) dJ1_init_6 (fun H_6 L_6 hO hz_6 hq_6 hS => ?_)
  have hO : mm_ob G (mm_h H_6) a 15 [.int (nI 0), .null, .int (nI 0)] := hO
  exact mm_vret hx hb hr hlk hS (Nat.le_of_ble_eq_true rfl) (Nat.le_of_ble_eq_true rfl) (⟨rfl, hO⟩) dJ1_init_9
set_option maxRecDepth 100000 in
theorem a_init0 (l : Launch) {G : mm_G} {P : mm_H} {H : Heap} {a : Nat} (hF : mm_le P (mm_h H)) (hO : mm_ob G (mm_h H) a 15 [.int 0, .null, .int 0]) (hPa : P a = none) : Mt l yJ2_init (ws_ yJ2_init cJ2_init 1 none) 3 90 0 0 G P [.ref a] H (fun q => q = a) (mm_v (fun H1 => AL G (mm_h H1) a (G.2.2 0) 0 0 0 (fun _ => 0))) := by
  refine Mt.of (by decide) (Nat.le_of_ble_eq_true rfl) (fun p e s m below meth c ls hx hb hr hlk hml hown hnm hts hKK hsH hl hS => ?_)
  have hl : lv_has ls 1 [(0, .ref a)] := hl
  refine lv_aload_n hx hb dJ2_init_0 rfl (lv_at hl 0 rfl) ?_
  refine mm_rv (va_runI (As := []) (rest := []) ⟨hx, hb, hml, hown, hts⟩ (a_c1 l hF hO) (cwI 0 hts (lw_meth q202) rfl rfl rfl (hts _ q137) (hts _ q200) (hts _ q201) rfl (by decide +kernel) ⟨Nat.le_of_ble_eq_true rfl, Nat.le_of_ble_eq_true rfl⟩) (mm_pS hKK) rfl rfl hl.1 rfl (lv_room (Nat.le_of_ble_eq_true rfl)) dJ2_init_1 ⟨Nat.le_of_ble_eq_true rfl, Nat.le_of_ble_eq_true rfl⟩) hS (mm_sS hS) (fun H_1 L_1 hO hz_1 hq_1 hS => ?_)
  have hF := hF.keep hq_1 (fun q z => by rw [z]; exact hPa)
  refine lv_aload_n hx hb dJ2_init_4 rfl (lv_at hl 0 rfl) ?_
  refine mm_gets (v := .ref (G.2.2 0)) hx hb hKK.L.1 hF hown (hts _ q207) (fun _ h9 => h9) dJ2_init_5 ?_
  refine mm_put (C := RJ2) (T := TJ2) (N := 3) (ci := 15) (v := .ref (G.2.2 0)) (ty := (.array (.object "java/lang/Object"))) hx hb hts in_J2 tyJ2 tyJ2_ok nmJ2 hown hKK hO hS (Or.inl rfl) rfl 1 (by decide) (hts _ q209) (fun _ h9 => h9) rfl  (by decide +kernel) (rfl) (rfl) (Nat.le_of_ble_eq_true rfl) dJ2_init_8 (fun H_8 L_8 hO hz_8 hq_8 hS => ?_)
  have hO : mm_ob G (mm_h H_8) a 15 [.int (nI 0), .ref (G.2.2 0), .int (nI 0)] := hO
  have hn0 : a ≠ G.2.2 0 := by intro z; obtain ⟨cell, h1, -⟩ := hKK.L.2.1; rw [← z, hPa] at h1; cases h1
  exact mm_vret hx hb hr hlk hS (Nat.le_of_ble_eq_true rfl) (Nat.le_of_ble_eq_true rfl) (⟨rfl, hO, Nat.le_refl _, by decide, hn0, .inl ⟨rfl, rfl⟩⟩) dJ2_init_11
set_option maxRecDepth 100000 in
theorem a_init1 (l : Launch) {G : mm_G} {P : mm_H} {H : Heap} {a k : Nat} (hF : mm_le P (mm_h H)) (hO : mm_ob G (mm_h H) a 15 [.int 0, .null, .int 0]) (hPa : P a = none) (hk1 : 0 < k) (hk2 : k ≤ 300) : Mt l yJ2_init_2 (ws_ yJ2_init_2 cJ2_init_2 2 none) 3 90 1 300 G P [.ref a, .int (nI k)] H (fun q => q = a) (mm_v (fun H1 => ∃ arr, AL G (mm_h H1) a arr k 0 0 (fun _ => 0) ∧ H.size ≤ arr)) := by
  refine Mt.of (by decide) (Nat.le_of_ble_eq_true rfl) (fun p e s m below meth c ls hx hb hr hlk hml hown hnm hts hKK hsH hl hS => ?_)
  have hl : lv_has ls 2 [(0, .ref a), (1, .int (nI k))] := hl
  refine lv_aload_n hx hb dJ2_init_2_0 rfl (lv_at hl 0 rfl) ?_
  refine mm_rv (va_runI (As := []) (rest := []) ⟨hx, hb, hml, hown, hts⟩ (a_c1 l hF hO) (cwI 0 hts (lw_meth q202) rfl rfl rfl (hts _ q137) (hts _ q200) (hts _ q201) rfl (by decide +kernel) ⟨Nat.le_of_ble_eq_true rfl, Nat.le_of_ble_eq_true rfl⟩) (mm_pS hKK) rfl rfl hl.1 rfl (lv_room (Nat.le_of_ble_eq_true rfl)) dJ2_init_2_1 ⟨Nat.le_of_ble_eq_true rfl, Nat.le_of_ble_eq_true rfl⟩) hS (mm_sS hS) (fun H_1 L_1 hO hz_1 hq_1 hS => ?_)
  have hF := hF.keep hq_1 (fun q z => by rw [z]; exact hPa)
  refine lv_iload_n hx hb dJ2_init_2_4 rfl (lv_at hl 1 rfl) ?_
  refine mm_if_le (tgt := 19) (by omega) hx hb dJ2_init_2_5 (by decide) (fun c_5 => ?_) (fun c_5 => ?_)
  · exfalso; omega
  · refine lv_aload_n hx hb dJ2_init_2_8 rfl (lv_at hl 0 rfl) ?_
    refine lv_iload_n hx hb dJ2_init_2_9 rfl (lv_at hl 1 rfl) ?_
    have hlt_a := hO.lt
    have hs1 := hS.1
    refine mm_newq hx hb hown (hts _ q328) hKK hS (N := k) (by omega) (by omega) (by simp only [mm_rm]; omega) (by simp only [mm_rm]; omega) dJ2_init_2_10 (fun a_10 H_10 ea_10 ha_10 hz_10 hq_10 hS => ?_)
    have hO := hO.kept (hq_10 _ hO.lt)
    have hle_a_10 : H.size ≤ a_10 := by rw [ea_10]; exact hs1
    have hgt_a_a_10 : a < a_10 := by rw [ea_10]; exact hlt_a
    refine mm_put (C := RJ2) (T := TJ2) (N := 3) (ci := 15) (v := .ref a_10) (ty := (.array (.object "java/lang/Object"))) hx hb hts in_J2 tyJ2 tyJ2_ok nmJ2 hown hKK hO hS (Or.inl rfl) rfl 1 (by decide) (hts _ q209) (fun _ h9 => h9) rfl  (by decide +kernel) (rfl) (rfl) (Nat.le_of_ble_eq_true rfl) dJ2_init_2_13 (fun H_13 L_13 hO hz_13 hq_13 hS => ?_)
    have hO : mm_ob G (mm_h H_13) a 15 [.int (nI 0), .ref a_10, .int (nI 0)] := hO
    have ha_10 := ha_10.kept (hq_13 _ ((Nat.ne_of_lt hgt_a_a_10).symm))
    refine lv_goto (tgt := 60) hx hb dJ2_init_2_16 (by decide) ?_
    exact mm_vret hx hb hr hlk hS (Nat.le_of_ble_eq_true rfl) (by omega) (⟨rfl, a_10, ⟨hO, Nat.zero_le _, by omega, Nat.ne_of_lt hgt_a_a_10, .inr ⟨hk1, by rw [alF_0]; exact ha_10⟩⟩, hle_a_10⟩) dJ2_init_2_60
