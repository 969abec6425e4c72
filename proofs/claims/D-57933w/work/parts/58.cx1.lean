/-! the component: nodes (printed by tools/cx1.py) -/
set_option maxRecDepth 100000 in
theorem x_isB (l : Launch) {G : mm_G} {P : mm_H} {H : Heap} {a lo hi : Int32}  : Mt l yX1_isBetween (ws_ yX1_isBetween cX1_isBetween 3 (some .boolean)) 0 0 0 0 G P [.int a, .int lo, .int hi] H mm_0 (mm_pu (.int (mm_b (isB a lo hi))) H) := by
  refine Mt.of (by decide) (Nat.le_of_ble_eq_true rfl) (fun p e s m below meth c ls hx hb hr hlk hml hown hnm hts hKK hsH hl hS => ?_)
  have hl : lv_has ls 3 [(0, .int a), (1, .int lo), (2, .int hi)] := hl
  refine lv_iload_n hx hb dX1_isBetween_0 rfl (lv_at hl 0 rfl) ?_
  refine lv_iload_n hx hb dX1_isBetween_1 rfl (lv_at hl 1 rfl) ?_
  refine lv_icmp_lt (tgt := 14) hx hb dX1_isBetween_2 (by decide) (fun c_2 => ?_) (fun c_2 => ?_)
  · refine lv_iconst (v := nI 0) hx hb dX1_isBetween_14 (by decide) ?_
    refine mm_top (y := mm_b false) rfl ?_
    exact mm_zret (v := mm_b false) hx hb hr hlk hS (Nat.le_of_ble_eq_true rfl) (Nat.le_of_ble_eq_true rfl) (mm_nb _) (⟨by unfold isB; first | exact mm_e1 (by rw [decide_eq_true (Int32.not_lt.mp c_2), decide_eq_true (Int32.not_lt.mp c_7)]; rfl) | exact mm_e0 (by rw [decide_eq_false (Int32.not_le.mpr c_2)]; rfl) | exact mm_e0 (by rw [decide_eq_false (Int32.not_le.mpr c_7), Bool.and_false]), rfl⟩) dX1_isBetween_15
  · refine lv_iload_n hx hb dX1_isBetween_5 rfl (lv_at hl 0 rfl) ?_
    refine lv_iload_n hx hb dX1_isBetween_6 rfl (lv_at hl 2 rfl) ?_
    refine lv_icmp_gt (tgt := 14) hx hb dX1_isBetween_7 (by decide) (fun c_7 => ?_) (fun c_7 => ?_)
    · refine lv_iconst (v := nI 0) hx hb dX1_isBetween_14 (by decide) ?_
      refine mm_top (y := mm_b false) rfl ?_
      exact mm_zret (v := mm_b false) hx hb hr hlk hS (Nat.le_of_ble_eq_true rfl) (Nat.le_of_ble_eq_true rfl) (mm_nb _) (⟨by unfold isB; first | exact mm_e1 (by rw [decide_eq_true (Int32.not_lt.mp c_2), decide_eq_true (Int32.not_lt.mp c_7)]; rfl) | exact mm_e0 (by rw [decide_eq_false (Int32.not_le.mpr c_2)]; rfl) | exact mm_e0 (by rw [decide_eq_false (Int32.not_le.mpr c_7), Bool.and_false]), rfl⟩) dX1_isBetween_15
    · refine lv_iconst (v := nI 1) hx hb dX1_isBetween_10 (by decide) ?_
      refine mm_top (y := mm_b true) rfl ?_
      refine lv_goto (tgt := 15) hx hb dX1_isBetween_11 (by decide) ?_
      exact mm_zret (v := mm_b true) hx hb hr hlk hS (Nat.le_of_ble_eq_true rfl) (Nat.le_of_ble_eq_true rfl) (mm_nb _) (⟨by unfold isB; first | exact mm_e1 (by rw [decide_eq_true (Int32.not_lt.mp c_2), decide_eq_true (Int32.not_lt.mp c_7)]; rfl) | exact mm_e0 (by rw [decide_eq_false (Int32.not_le.mpr c_2)]; rfl) | exact mm_e0 (by rw [decide_eq_false (Int32.not_le.mpr c_7), Bool.and_false]), rfl⟩) dX1_isBetween_15
set_option maxRecDepth 100000 in
theorem x_cap (l : Launch) {G : mm_G} {P : mm_H} {H : Heap} {k : Nat} (hk : k ≤ 10) : Mt l yX1_capacity (ws_ yX1_capacity cX1_capacity 3 (some .int)) 0 0 0 0 G P [.int (nI k)] H mm_0 (mm_pu (.int (nI (4 ^ k))) H) := by
  refine Mt.of (by decide) (Nat.le_of_ble_eq_true rfl) (fun p e s m below meth c ls hx hb hr hlk hml hown hnm hts hKK hsH hl hS => ?_)
  have hl : lv_has ls 3 [(0, .int (nI k))] := hl
  refine lv_iconst (v := nI 1) hx hb dX1_capacity_0 (by decide) ?_
  refine lv_istore_n (lv' := [(1, .int (nI 1)), (0, .int (nI k))]) hx hb dX1_capacity_1 rfl hl (by decide) rfl (fun ls hl => ?_)
  refine lv_iconst (v := nI 0) hx hb dX1_capacity_2 (by decide) ?_
  refine lv_istore_n (lv' := [(2, .int (nI 0)), (1, .int (nI 1)), (0, .int (nI k))]) hx hb dX1_capacity_3 rfl hl (by decide) rfl (fun ls hl => ?_)
  have lp_4 : ∀ (fu : Nat) (i : Nat)  (L : List Loc) (ls : Array Slot), k - i < fu → (i ≤ k) → lv_has ls 3 [(1, .int (nI (4 ^ i))), (2, .int (nI i)), (0, .int (nI k))] → va_S (mm_A mm_0 H) H H L → W p l e (mm_rm 0 0 0 0) s m ([.int (nI k)] : List Value).toArray below meth c H L 0 0 (MQ below (mm_Qc H mm_0 (mm_pu (.int (nI (4 ^ k))) H)) ([.int (nI k)] : List Value).toArray s 0 0 (mm_A mm_0 H)) (F0 m 4 ls []) := by
    intro fu; induction fu with
    | zero => intro i L ls hfu; exact absurd hfu (Nat.not_lt_zero _)
    | succ fu ih =>
      intro i L ls hfu hi hl  hS
      have ih_4 := ih
      refine lv_iload_n hx hb dX1_capacity_4 rfl (lv_at hl 1 rfl) ?_
      refine lv_iload_n hx hb dX1_capacity_5 rfl (lv_at hl 2 rfl) ?_
      refine mm_icmp_ge (tgt := 19) (by omega) (by omega) hx hb dX1_capacity_6 (by decide) (fun c_6 => ?_) (fun c_6 => ?_)
      · refine lv_iload_n hx hb dX1_capacity_19 rfl (lv_at hl 0 rfl) ?_
        exact mm_iret (v := nI (4 ^ i)) hx hb hr hlk hS (Nat.le_of_ble_eq_true rfl) (Nat.le_of_ble_eq_true rfl) (⟨by rw [show k = i by omega], rfl⟩) dX1_capacity_20
      · refine lv_iload_n hx hb dX1_capacity_9 rfl (lv_at hl 0 rfl) ?_
        refine lv_iconst (v := nI 4) hx hb dX1_capacity_10 (by decide) ?_
        refine mm_imul hx hb dX1_capacity_11 ?_
        refine mm_top (y := nI (4 ^ (i + 1))) (by rw [Nat.pow_succ]) ?_
        refine lv_istore_n (lv' := [(1, .int (nI ((4 ^ i) * 4))), (2, .int (nI i)), (0, .int (nI k))]) hx hb dX1_capacity_12 rfl hl (by decide) rfl (fun ls hl => ?_)
        refine lv_iinc (v := nI (i + 1)) (lv' := [(2, .int (nI (i + 1))), (1, .int (nI ((4 ^ i) * 4))), (0, .int (nI k))]) hx hb dX1_capacity_13 hl (k := 1) rfl (nI_add _ _) (by decide) rfl (fun ls hl => ?_)
        refine lv_goto (tgt := 4) hx hb dX1_capacity_16 (by decide) ?_
        exact ih_4 (i + 1) _ _ (by omega) (by omega) (lv_sub hl [1, 0, 2] rfl)  hS
  exact lp_4 _ 0 _ _ (Nat.lt_succ_self _) (by omega) (lv_sub hl [1, 0, 2] rfl)  hS
set_option maxRecDepth 100000 in
theorem x_hf (l : Launch) {G : mm_G} {P : mm_H} {H : Heap} {n : Nat} (hn : n ≤ 64) : Mt l yX1_heightFor (ws_ yX1_heightFor cX1_heightFor 2 (some .int)) 1 22 0 0 G P [.int (nI n)] H mm_0 (mm_pu (.int (nI (hf n))) H) := by
  refine Mt.of (by decide) (Nat.le_of_ble_eq_true rfl) (fun p e s m below meth c ls hx hb hr hlk hml hown hnm hts hKK hsH hl hS => ?_)
  have hl : lv_has ls 2 [(0, .int (nI n))] := hl
  refine lv_iload_n hx hb dX1_heightFor_0 rfl (lv_at hl 0 rfl) ?_
  refine mm_if_ne (tgt := 6) (by omega) hx hb dX1_heightFor_1 (by decide) (fun c_1 => ?_) (fun c_1 => ?_)
  · refine lv_iconst (v := nI 1) hx hb dX1_heightFor_6 (by decide) ?_
    refine lv_istore_n (lv' := [(1, .int (nI 1)), (0, .int (nI n))]) hx hb dX1_heightFor_7 rfl hl (by decide) rfl (fun ls hl => ?_)
    have lp_8 : ∀ (fu : Nat) (h : Nat)  (L : List Loc) (ls : Array Slot), 4 - h < fu → (h = 1 ∨ (h = 2 ∧ 4 < n) ∨ (h = 3 ∧ 16 < n)) → lv_has ls 2 [(1, .int (nI h)), (0, .int (nI n))] → va_S (mm_A mm_0 H) H H L → W p l e (mm_rm 1 22 0 0) s m ([.int (nI n)] : List Value).toArray below meth c H L 0 0 (MQ below (mm_Qc H mm_0 (mm_pu (.int (nI (hf n))) H)) ([.int (nI n)] : List Value).toArray s 0 0 (mm_A mm_0 H)) (F0 m 8 ls []) := by
      intro fu; induction fu with
      | zero => intro h L ls hfu; exact absurd hfu (Nat.not_lt_zero _)
      | succ fu ih =>
        intro h L ls hfu hi hl  hS
        have ih_8 := ih
        have hp : 4 ^ h ≤ 64 := by rcases hi with rfl | ⟨rfl, h4⟩ | ⟨rfl, h4⟩ <;> decide
        have hh : h ≤ 3 := by omega
        refine lv_iload_n hx hb dX1_heightFor_8 rfl (lv_at hl 0 rfl) ?_
        refine mm_rpu (va_runS (As := [.int (nI h)]) (rest := []) ⟨hx, hb, hml, hown, hts⟩ (x_cap l (by omega)) (va_cwS 1 hts (lw_S q778 q779 q135 q780) rfl rfl rfl (by decide +kernel) ⟨Nat.le_of_ble_eq_true rfl, Nat.le_of_ble_eq_true rfl⟩) (mm_pS hKK) rfl rfl hl.1 rfl (lv_room (Nat.le_of_ble_eq_true rfl)) dX1_heightFor_9 ⟨Nat.le_of_ble_eq_true rfl, Nat.le_of_ble_eq_true rfl⟩) hS (mm_s0 hS) (fun L_9 hS => ?_)
        refine lv_iload_n hx hb dX1_heightFor_12 rfl (lv_at hl 1 rfl) ?_
        refine mm_icmp_ge (tgt := 22) (by omega) (by omega) hx hb dX1_heightFor_13 (by decide) (fun c_13 => ?_) (fun c_13 => ?_)
        · refine lv_iload_n hx hb dX1_heightFor_22 rfl (lv_at hl 0 rfl) ?_
          exact mm_iret (v := nI h) hx hb hr hlk hS (Nat.le_of_ble_eq_true rfl) (Nat.le_of_ble_eq_true rfl) (⟨by rw [hf_of hi hn c_1 c_13], rfl⟩) dX1_heightFor_23
        · refine lv_iinc (v := nI (h + 1)) (lv' := [(1, .int (nI (h + 1))), (0, .int (nI n))]) hx hb dX1_heightFor_16 hl (k := 0) rfl (nI_add _ _) (by decide) rfl (fun ls hl => ?_)
          refine lv_goto (tgt := 8) hx hb dX1_heightFor_19 (by decide) ?_
          exact ih_8 (h + 1) _ _ (by omega) (by rcases hi with rfl | ⟨rfl, h4⟩ | ⟨rfl, h4⟩; exact Or.inr (Or.inl ⟨rfl, by simpa using c_13⟩); exact Or.inr (Or.inr ⟨rfl, by simpa using c_13⟩); exact absurd c_13 (by simp; omega)) (lv_sub hl [0, 1] rfl)  hS
    exact lp_8 _ 1 _ _ (Nat.lt_succ_self _) (Or.inl rfl) (lv_sub hl [0, 1] rfl)  hS
  · refine lv_iconst (v := nI 0) hx hb dX1_heightFor_4 (by decide) ?_
    exact mm_iret (v := nI 0) hx hb hr hlk hS (Nat.le_of_ble_eq_true rfl) (Nat.le_of_ble_eq_true rfl) (⟨by rw [show n = 0 from c_1]; rfl, rfl⟩) dX1_heightFor_5
set_option maxRecDepth 100000 in
theorem x_cntL (l : Launch) {G : mm_G} {P : mm_H} {H : Heap} {W : mm_H} {a k lst n : Nat} {ev : Nat → Int32} (hN : NL G W a k lst n ev) (hWF : mm_le W (mm_h H)) : Mt l yX4_count (ws_ yX4_count cX4_count 1 (some .int)) 1 30 0 0 G P [.ref a] H mm_0 (mm_pu (.int (nI n)) H) := by
  refine Mt.of (by decide) (Nat.le_of_ble_eq_true rfl) (fun p e s m below meth c ls hx hb hr hlk hml hown hnm hts hKK hsH hl hS => ?_)
  have hl : lv_has ls 1 [(0, .ref a)] := hl
  obtain ⟨hO, arr, cap, mc, es, hAL, hin⟩ := hN
  refine lv_aload_n hx hb dX4_count_0 rfl (lv_at hl 0 rfl) ?_
  refine mm_get (C := RX4) (T := TX4) (N := 2) (ci := 4) (v := .ref lst) hx hb hts in_X4 hown hKK (mm_ob.rb hO) hWF rfl 1 (by decide) (hts _ q721) (fun _ h9 => h9) rfl dX4_count_1 ?_
  refine mm_rpu5 (va_runF (As := []) (rest := []) (hKK.K.1 15 _ rfl).2 ⟨hx, hb, hml, hown, hts⟩ (a_size l hAL hWF) (va_cwF 0 hts (lw_FF q715 q667 q669 q138 (lw_meth q671)) rfl rfl rfl (hKK.F.use 0 rfl) (by decide +kernel) ⟨Nat.le_of_ble_eq_true rfl, Nat.le_of_ble_eq_true rfl⟩) (mm_pV hKK (mm_rc hKK hAL.1 hWF rfl)) rfl rfl hl.1 rfl (lv_room (Nat.le_of_ble_eq_true rfl)) dX4_count_4 ⟨Nat.le_of_ble_eq_true rfl, Nat.le_of_ble_eq_true rfl⟩) hS (mm_s0 hS) (fun L_4 hS => ?_)
  exact mm_iret (v := nI n) hx hb hr hlk hS (Nat.le_of_ble_eq_true rfl) (Nat.le_of_ble_eq_true rfl) (⟨rfl, rfl⟩) dX4_count_9
set_option maxRecDepth 100000 in
theorem x_cntI (l : Launch) {G : mm_G} {P : mm_H} {H : Heap} {W : mm_H} {a k lst n : Nat} {kids : Nat → Nat} (hN : NI G W a k lst n kids) (hWF : mm_le W (mm_h H)) : Mt l yX5_count (ws_ yX5_count cX5_count 1 (some .int)) 1 30 0 0 G P [.ref a] H mm_0 (mm_pu (.int (nI n)) H) := by
  refine Mt.of (by decide) (Nat.le_of_ble_eq_true rfl) (fun p e s m below meth c ls hx hb hr hlk hml hown hnm hts hKK hsH hl hS => ?_)
  have hl : lv_has ls 1 [(0, .ref a)] := hl
  obtain ⟨hO, arr, cap, mc, hAL⟩ := hN
  refine lv_aload_n hx hb dX5_count_0 rfl (lv_at hl 0 rfl) ?_
  refine mm_get (C := RX5) (T := TX5) (N := 2) (ci := 5) (v := .ref lst) hx hb hts in_X5 hown hKK (mm_ob.rb hO) hWF rfl 1 (by decide) (hts _ q759) (fun _ h9 => h9) rfl dX5_count_1 ?_
  refine mm_rpu5 (va_runF (As := []) (rest := []) (hKK.K.1 15 _ rfl).2 ⟨hx, hb, hml, hown, hts⟩ (a_size l hAL hWF) (va_cwF 0 hts (lw_FF q753 q667 q669 q138 (lw_meth q671)) rfl rfl rfl (hKK.F.use 0 rfl) (by decide +kernel) ⟨Nat.le_of_ble_eq_true rfl, Nat.le_of_ble_eq_true rfl⟩) (mm_pV hKK (mm_rc hKK hAL.1 hWF rfl)) rfl rfl hl.1 rfl (lv_room (Nat.le_of_ble_eq_true rfl)) dX5_count_4 ⟨Nat.le_of_ble_eq_true rfl, Nat.le_of_ble_eq_true rfl⟩) hS (mm_s0 hS) (fun L_4 hS => ?_)
  exact mm_iret (v := nI n) hx hb hr hlk hS (Nat.le_of_ble_eq_true rfl) (Nat.le_of_ble_eq_true rfl) (⟨rfl, rfl⟩) dX5_count_9
set_option maxRecDepth 100000 in
theorem x_lfL (l : Launch) {G : mm_G} {P : mm_H} {H : Heap} {W : mm_H} {a k lst n : Nat} {ev : Nat → Int32} (hN : NL G W a k lst n ev) (hWF : mm_le W (mm_h H)) : Mt l yX4_isLeaf (ws_ yX4_isLeaf cX4_isLeaf 1 (some .boolean)) 0 0 0 0 G P [.ref a] H mm_0 (mm_pu (.int (mm_b true)) H) := by
  refine Mt.of (by decide) (Nat.le_of_ble_eq_true rfl) (fun p e s m below meth c ls hx hb hr hlk hml hown hnm hts hKK hsH hl hS => ?_)
  have hl : lv_has ls 1 [(0, .ref a)] := hl
  obtain ⟨hO, arr, cap, mc, es, hAL, hin⟩ := hN
  refine lv_iconst (v := nI 1) hx hb dX4_isLeaf_0 (by decide) ?_
  refine mm_top (y := mm_b true) rfl ?_
  exact mm_zret (v := mm_b true) hx hb hr hlk hS (Nat.le_of_ble_eq_true rfl) (Nat.le_of_ble_eq_true rfl) (mm_nb _) (⟨rfl, rfl⟩) dX4_isLeaf_1
set_option maxRecDepth 100000 in
theorem x_lfI (l : Launch) {G : mm_G} {P : mm_H} {H : Heap} {W : mm_H} {a k lst n : Nat} {kids : Nat → Nat} (hN : NI G W a k lst n kids) (hWF : mm_le W (mm_h H)) : Mt l yX5_isLeaf (ws_ yX5_isLeaf cX5_isLeaf 1 (some .boolean)) 0 0 0 0 G P [.ref a] H mm_0 (mm_pu (.int (mm_b false)) H) := by
  refine Mt.of (by decide) (Nat.le_of_ble_eq_true rfl) (fun p e s m below meth c ls hx hb hr hlk hml hown hnm hts hKK hsH hl hS => ?_)
  have hl : lv_has ls 1 [(0, .ref a)] := hl
  obtain ⟨hO, arr, cap, mc, hAL⟩ := hN
  refine lv_iconst (v := nI 0) hx hb dX5_isLeaf_0 (by decide) ?_
  refine mm_top (y := mm_b false) rfl ?_
  exact mm_zret (v := mm_b false) hx hb hr hlk hS (Nat.le_of_ble_eq_true rfl) (Nat.le_of_ble_eq_true rfl) (mm_nb _) (⟨rfl, rfl⟩) dX5_isLeaf_1
set_option maxRecDepth 100000 in
theorem x_chL (l : Launch) {G : mm_G} {P : mm_H} {H : Heap} {a : Nat} {i : Int32}  : Mt l yX3_child (ws_ yX3_child cX3_child 2 (some (.object "VectorVersions$Node"))) 0 0 0 0 G P [.ref a, .int i] H mm_0 (mm_pu .null H) := by
  refine Mt.of (by decide) (Nat.le_of_ble_eq_true rfl) (fun p e s m below meth c ls hx hb hr hlk hml hown hnm hts hKK hsH hl hS => ?_)
  have hl : lv_has ls 2 [(0, .ref a), (1, .int i)] := hl
  refine lv_null hx hb dX3_child_0 ?_
  exact mm_aret (v := .null) hx hb hr rfl hlk hS (Nat.le_of_ble_eq_true rfl) (Nat.le_of_ble_eq_true rfl) (Or.inl rfl) (⟨rfl, rfl⟩) dX3_child_1
set_option maxRecDepth 100000 in
theorem x_chI (l : Launch) {G : mm_G} {P : mm_H} {H : Heap} {W : mm_H} {nd : Nat → Nat} {S : sp_S} {k lst n : Nat} {i : Int32} (hN : NI G W (nd k) k lst n (fun i => nd (s_chd S k i))) (hWF : mm_le W (mm_h H)) (hn9 : n ≤ 4) (hK9 : ∀ j, j < n → NOK G W nd S (s_chd S k j)) : Mt l yX5_child (ws_ yX5_child cX5_child 2 (some (.object "VectorVersions$Node"))) 4 120 0 0 G P [.ref (nd k), .int i] H mm_0 (mm_pu (va_rf (if inR i n = true then some (nd (s_chd S k i.toNatClampNeg)) else none)) H) := by
  refine Mt.of (by decide) (Nat.le_of_ble_eq_true rfl) (fun p e s m below meth c ls hx hb hr hlk hml hown hnm hts hKK hsH hl hS => ?_)
  have hl : lv_has ls 2 [(0, .ref (nd k)), (1, .int i)] := hl
  obtain ⟨hO, arr, cap, mc, hAL⟩ := hN
  refine lv_iload_n hx hb dX5_child_0 rfl (lv_at hl 1 rfl) ?_
  refine lv_iconst (v := nI 0) hx hb dX5_child_1 (by decide) ?_
  refine lv_aload_n hx hb dX5_child_2 rfl (lv_at hl 0 rfl) ?_
  refine mm_get (C := RX5) (T := TX5) (N := 2) (ci := 5) (v := .ref lst) hx hb hts in_X5 hown hKK (mm_ob.rb hO) hWF rfl 1 (by decide) (hts _ q759) (fun _ h9 => h9) rfl dX5_child_3 ?_
  refine mm_rpu5 (va_runF (As := []) (rest := [.int (nI 0), .int i]) (hKK.K.1 15 _ rfl).2 ⟨hx, hb, hml, hown, hts⟩ (a_size l hAL hWF) (va_cwF 0 hts (lw_FF q753 q667 q669 q138 (lw_meth q671)) rfl rfl rfl (hKK.F.use 0 rfl) (by decide +kernel) ⟨Nat.le_of_ble_eq_true rfl, Nat.le_of_ble_eq_true rfl⟩) (mm_pV hKK (mm_rc hKK hAL.1 hWF rfl)) rfl rfl hl.1 rfl (lv_room (Nat.le_of_ble_eq_true rfl)) dX5_child_6 ⟨Nat.le_of_ble_eq_true rfl, Nat.le_of_ble_eq_true rfl⟩) hS (mm_s0 hS) (fun L_6 hS => ?_)
  refine lv_iconst (v := nI 1) hx hb dX5_child_11 (by decide) ?_
  refine lv_isub hx hb dX5_child_12 ?_
  refine mm_rpu (va_runSN (As := [.int i, .int (nI 0), .int ((nI n) - (nI 1))]) (rest := []) ⟨hx, hb, hml, hown, hts⟩ (x_isB l ) ⟨va_cnB 3 hts (lw_meth q903) rfl rfl rfl (hKK.W.use q1481 rfl) (hts _ q135) (by decide +kernel) ⟨Nat.le_of_ble_eq_true rfl, Nat.le_of_ble_eq_true rfl⟩, hts _ q902, trivial⟩ (mm_pS hKK) rfl rfl hl.1 rfl (lv_room (Nat.le_of_ble_eq_true rfl)) dX5_child_13 ⟨Nat.le_of_ble_eq_true rfl, Nat.le_of_ble_eq_true rfl⟩) hS (mm_s0 hS) (fun L_13 hS => ?_)
  refine mm_top (y := mm_b (inR i n)) (congrArg mm_b (isB_inR i (by omega))) ?_
  refine mm_ifeqB (tgt := 35) hx hb dX5_child_16 (by decide) (fun c_16 => ?_) (fun c_16 => ?_)
  · refine lv_null hx hb dX5_child_35 ?_
    exact mm_aret (v := .null) hx hb hr rfl hlk hS (Nat.le_of_ble_eq_true rfl) (Nat.le_of_ble_eq_true rfl) (Or.inl rfl) (⟨by rw [if_neg (by rw [c_16]; decide)]; rfl, rfl⟩) dX5_child_36
  · obtain ⟨j, hj, hej, hcj⟩ := inR_t c_16
    rw [hej] at hl
    refine lv_aload_n hx hb dX5_child_19 rfl (lv_at hl 0 rfl) ?_
    refine mm_get (C := RX5) (T := TX5) (N := 2) (ci := 5) (v := .ref lst) hx hb hts in_X5 hown hKK (mm_ob.rb hO) hWF rfl 1 (by decide) (hts _ q759) (fun _ h9 => h9) rfl dX5_child_20 ?_
    refine lv_iload_n hx hb dX5_child_23 rfl (lv_at hl 1 rfl) ?_
    refine mm_rpu5 (va_runF (As := [.int (nI j)]) (rest := []) (hKK.K.1 15 _ rfl).2 ⟨hx, hb, hml, hown, hts⟩ (a_get l hAL hWF (by omega)) (va_cwF 1 hts (lw_FF q755 q676 q678 q138 (lw_meth q680)) rfl rfl rfl (hKK.F.use 2 rfl) (by decide +kernel) ⟨Nat.le_of_ble_eq_true rfl, Nat.le_of_ble_eq_true rfl⟩) (mm_pV hKK (mm_rc hKK hAL.1 hWF rfl)) rfl rfl hl.1 rfl (lv_room (Nat.le_of_ble_eq_true rfl)) dX5_child_24 ⟨Nat.le_of_ble_eq_true rfl, Nat.le_of_ble_eq_true rfl⟩) hS (mm_s0 hS) (fun L_24 hS => ?_)
    refine mm_topv (y := .ref (nd (s_chd S k j))) rfl ?_
    refine mm_castNd hx hb hKK hown (hts _ q756) (hK9 j hj) hWF dX5_child_29 ?_
    refine lv_goto (tgt := 36) hx hb dX5_child_32 (by decide) ?_
    exact mm_aret (v := .ref (nd (s_chd S k j))) hx hb hr rfl hlk hS (Nat.le_of_ble_eq_true rfl) (Nat.le_of_ble_eq_true rfl) (Or.inr ⟨_, rfl⟩) (⟨by rw [if_pos c_16, hcj]; rfl, rfl⟩) dX5_child_36
set_option maxRecDepth 100000 in
theorem x_elL (l : Launch) {G : mm_G} {P : mm_H} {H : Heap} {W : mm_H} {a k lst n : Nat} {ev : Nat → Int32} {i : Nat} {u v : Int32} (hN : NL G W a k lst n ev) (hWF : mm_le W (mm_h H)) (hi9 : i < n) (hv : ev i = v) : Mt l yX4_element (ws_ yX4_element cX4_element 3 (some (.object "java/lang/Comparable"))) 3 90 0 0 G P [.ref a, .int (nI i), .int u] H mm_0 (mm_r (fun b H1 => mm_in G W b v ∧ H = H1)) := by
  refine Mt.of (by decide) (Nat.le_of_ble_eq_true rfl) (fun p e s m below meth c ls hx hb hr hlk hml hown hnm hts hKK hsH hl hS => ?_)
  have hl : lv_has ls 3 [(0, .ref a), (1, .int (nI i)), (2, .int u)] := hl
  obtain ⟨hO, arr, cap, mc, es, hAL, hin⟩ := hN
  refine lv_aload_n hx hb dX4_element_0 rfl (lv_at hl 0 rfl) ?_
  refine mm_get (C := RX4) (T := TX4) (N := 2) (ci := 4) (v := .ref lst) hx hb hts in_X4 hown hKK (mm_ob.rb hO) hWF rfl 1 (by decide) (hts _ q721) (fun _ h9 => h9) rfl dX4_element_1 ?_
  refine lv_iload_n hx hb dX4_element_4 rfl (lv_at hl 1 rfl) ?_
  refine mm_rpu5 (va_runF (As := [.int (nI i)]) (rest := []) (hKK.K.1 15 _ rfl).2 ⟨hx, hb, hml, hown, hts⟩ (a_get l hAL hWF (by omega)) (va_cwF 1 hts (lw_FF q717 q676 q678 q138 (lw_meth q680)) rfl rfl rfl (hKK.F.use 2 rfl) (by decide +kernel) ⟨Nat.le_of_ble_eq_true rfl, Nat.le_of_ble_eq_true rfl⟩) (mm_pV hKK (mm_rc hKK hAL.1 hWF rfl)) rfl rfl hl.1 rfl (lv_room (Nat.le_of_ble_eq_true rfl)) dX4_element_5 ⟨Nat.le_of_ble_eq_true rfl, Nat.le_of_ble_eq_true rfl⟩) hS (mm_s0 hS) (fun L_5 hS => ?_)
  refine va_castY (C := "java/lang/Integer") hx hb hown (hts _ q718) (hKK.W.use q1976 rfl) (mm_rcb hKK (hin i hi9) hWF rfl) dX4_element_10 ?_
  exact mm_aret (v := .ref (es i)) hx hb hr rfl hlk hS (Nat.le_of_ble_eq_true rfl) (Nat.le_of_ble_eq_true rfl) (Or.inr ⟨_, rfl⟩) (⟨_, rfl, by rw [← hv]; exact hin i hi9, rfl⟩) dX4_element_13
theorem Reg.le64 {S : sp_S} {h k n : Nat} {e : Nat → Int32} (g : Reg S (h + 1) k n e) (hh : h ≤ 2) : n ≤ 64 ∧ s_cnt S k ≤ 4 := by
  obtain ⟨-, -, ⟨g1, g2, g3⟩, -⟩ := g
  have h4 : 4 ^ h * 4 ≤ 64 := by
    have := Nat.pow_le_pow_right (n := 4) (by decide) hh
    omega
  refine ⟨by omega, ?_⟩
  rw [g3]
  have := (Nat.div_lt_iff_lt_mul (p4_pos h)).mpr (show n - 1 < 4 * 4 ^ h by omega)
  omega
set_option maxRecDepth 100000 in
theorem x_elI (l : Launch) {G : mm_G} {P : mm_H} {H : Heap} {W : mm_H} {nd : Nat → Nat} {S : sp_S} (h : Nat) {k n i : Nat} {ev : Nat → Int32} {v : Int32} (hD : NDS G W nd S) (hWF : mm_le W (mm_h H)) (hg : Reg S (h + 1) k n ev ∧ 1 ≤ h ∧ h ≤ 2) (hi9 : i < n) (hv : ev i = v) : Mt l yX5_element (ws_ yX5_element cX5_element 4 (some (.object "java/lang/Comparable"))) ((h + 5)) ((h * 60 + 150)) 0 0 G P [.ref (nd k), .int (nI i), .int (nI (h + 1))] H mm_0 (mm_r (fun b H1 => mm_in G W b v ∧ H = H1)) := by
  induction h generalizing k n i ev v with
  | zero => exact absurd hg.2.1 (by decide)
  | succ h ihr =>
    refine Mt.of (by decide) (Nat.le_of_ble_eq_true rfl) (fun p e s m below meth c ls hx hb hr hlk hml hown hnm hts hKK hsH hl hS => ?_)
    have hl : lv_has ls 4 [(0, .ref (nd k)), (1, .int (nI i)), (2, .int (nI ((h + 1) + 1)))] := hl
    obtain ⟨hR9, hh1, hh2⟩ := hg
    have hat := hR9.at hi9
    have hgN := hR9.le64 hh2
    have hb4 := p4_pos (h + 1)
    have hb6 := p4_le (h := h + 1) (by omega)
    have hlf : s_leaf S k = false := lf_false hR9.hgt (by omega)
    obtain ⟨lst, hN⟩ := (hD k hR9.1 hR9.2.1).I hlf
    obtain ⟨hO, arr, cap, mc, hAL⟩ := hN
    have hRc := hR9.2.2.2.2.2 (by omega) _ hat.1
    have hNc := hD _ hRc.1 hRc.2.1
    refine lv_iload_n hx hb dX5_element_0 rfl (lv_at hl 2 rfl) ?_
    refine lv_iconst (v := nI 1) hx hb dX5_element_1 (by decide) ?_
    refine mm_isub (by omega) hx hb dX5_element_2 ?_
    refine mm_top (y := nI (h + 1)) (congrArg nI (Nat.add_sub_cancel _ 1)) ?_
    refine mm_rpu (va_runSN (As := [.int (nI (h + 1))]) (rest := []) ⟨hx, hb, hml, hown, hts⟩ (x_cap l (by omega)) ⟨va_cnB 1 hts (lw_meth q780) rfl rfl rfl (hKK.W.use q1395 rfl) (hts _ q135) (by decide +kernel) ⟨by simp only [mm_rm]; omega, by simp only [mm_rm]; omega⟩, hts _ q779, trivial⟩ (mm_pS hKK) rfl rfl hl.1 rfl (lv_room (Nat.le_of_ble_eq_true rfl)) dX5_element_3 ⟨Nat.le_of_ble_eq_true rfl, Nat.le_of_ble_eq_true rfl⟩) hS (mm_s0 hS) (fun L_3 hS => ?_)
    refine lv_istore_n (lv' := [(3, .int (nI (4 ^ (h + 1)))), (0, .ref (nd k)), (1, .int (nI i)), (2, .int (nI ((h + 1) + 1)))]) hx hb dX5_element_6 rfl hl (by decide) rfl (fun ls hl => ?_)
    refine lv_aload_n hx hb dX5_element_7 rfl (lv_at hl 1 rfl) ?_
    refine mm_get (C := RX5) (T := TX5) (N := 2) (ci := 5) (v := .ref lst) hx hb hts in_X5 hown hKK (mm_ob.rb hO) hWF rfl 1 (by decide) (hts _ q759) (fun _ h9 => h9) rfl dX5_element_8 ?_
    refine lv_iload_n hx hb dX5_element_11 rfl (lv_at hl 2 rfl) ?_
    refine lv_iload_n hx hb dX5_element_12 rfl (lv_at hl 0 rfl) ?_
    refine mm_idiv (by omega) (by omega) (by omega) hx hb dX5_element_13 ?_
    refine mm_rpu5 (va_runF (As := [.int (nI (i / (4 ^ (h + 1))))]) (rest := []) (hKK.K.1 15 _ rfl).2 ⟨hx, hb, hml, hown, hts⟩ (a_get l hAL hWF hat.1) (va_cwF 1 hts (lw_FF q755 q676 q678 q138 (lw_meth q680)) rfl rfl rfl (hKK.F.use 2 rfl) (by decide +kernel) ⟨by simp only [mm_rm]; omega, by simp only [mm_rm]; omega⟩) (mm_pV hKK (mm_rc hKK hAL.1 hWF rfl)) rfl rfl hl.1 rfl (lv_room (Nat.le_of_ble_eq_true rfl)) dX5_element_14 ⟨Nat.le_of_ble_eq_true rfl, Nat.le_of_ble_eq_true rfl⟩) hS (mm_s0 hS) (fun L_14 hS => ?_)
    refine mm_topv (y := .ref (nd (s_chd S k (i / 4 ^ (h + 1))))) rfl ?_
    refine mm_castNd hx hb hKK hown (hts _ q756) hNc hWF dX5_element_19 ?_
    refine lv_iload_n hx hb dX5_element_22 rfl (lv_at hl 2 rfl) ?_
    refine lv_iload_n hx hb dX5_element_23 rfl (lv_at hl 0 rfl) ?_
    refine mm_irem (by omega) (by omega) (by omega) hx hb dX5_element_24 ?_
    refine lv_iload_n hx hb dX5_element_25 rfl (lv_at hl 3 rfl) ?_
    refine lv_iconst (v := nI 1) hx hb dX5_element_26 (by decide) ?_
    refine mm_isub (by omega) hx hb dX5_element_27 ?_
    refine mm_top (y := nI (h + 1)) (congrArg nI (Nat.add_sub_cancel _ 1)) ?_
    refine mm_rr (M := mm_0) (mc := 0) (ms := 0) (a := ([.ref (nd (s_chd S k (i / 4 ^ (h + 1)))), .int (nI (i % (4 ^ (h + 1)))), .int (nI (h + 1))] : List Value).toArray) (B := fun b H1 => mm_in G W b v ∧ H = H1) (rest := []) ?_ hS (mm_s0 hS) (fun b_28 H_28 L_28 hB_28 _ _ hS => ?_)
    · have hdm := dm i (4 ^ (h + 1)) hb4
      rcases Nat.eq_zero_or_pos h with hz | hz
      · obtain ⟨lst9, hLc⟩ := hNc.L (hRc.2.2.2.1.mpr hz)
        have hcc : i % 4 ^ (h + 1) < s_cnt S (s_chd S k (i / 4 ^ (h + 1))) := by have h3 := hRc.2.2.1.2.2; have hp1 : 4 ^ h = 1 := (by rw [hz]); rw [hp1, Nat.div_one] at h3; have := hat.2; omega
        have hic := hcc
        have hvc : s_ent S (s_chd S k (i / 4 ^ (h + 1))) (i % 4 ^ (h + 1)) = v := by rw [hRc.2.2.2.2.1 hz _ hat.2, ← hv]; show ev _ = ev _; rw [hdm.1]
        exact va_runU (As := [.int (nI (i % (4 ^ (h + 1)))), .int (nI (h + 1))]) (rest := []) ⟨hx, hb, hml, hown, hts⟩ (x_elL l hLc hWF (i := i % 4 ^ (h + 1)) (v := v) hic hvc) (va_cwA (owner := "VectorVersions$Node") 2 hts (lw_UU q1396 q1391 q1399 q1397 q159 (lw_meth q1398)) rfl rfl rfl (hKK.W.use q1390 rfl) (by decide +kernel) ⟨by simp only [mm_rm]; omega, by simp only [mm_rm]; omega⟩) (mm_pV hKK (mm_rc hKK hLc.1 hWF rfl)) rfl rfl hl.1 rfl (lv_room (Nat.le_of_ble_eq_true rfl)) dX5_element_28 ⟨Nat.le_of_ble_eq_true rfl, Nat.le_of_ble_eq_true rfl⟩
      · obtain ⟨lst9, hIc⟩ := hNc.I (lf_false hRc.hgt (by omega))
        exact va_runU (As := [.int (nI (i % (4 ^ (h + 1)))), .int (nI (h + 1))]) (rest := []) ⟨hx, hb, hml, hown, hts⟩ (ihr ⟨hRc, hz, by omega⟩ hat.2 (by show ev _ = v; rw [hdm.1]; exact hv)) (va_cwA (owner := "VectorVersions$Node") 2 hts (lw_UU q1396 q1391 q1392 q1393 q160 (lw_meth q1394)) rfl rfl rfl (hKK.W.use q1390 rfl) (by decide +kernel) ⟨by simp only [mm_rm]; omega, by simp only [mm_rm]; omega⟩) (mm_pV hKK (mm_rc hKK hIc.1 hWF rfl)) rfl rfl hl.1 rfl (lv_room (Nat.le_of_ble_eq_true rfl)) dX5_element_28 ⟨Nat.le_of_ble_eq_true rfl, Nat.le_of_ble_eq_true rfl⟩
    obtain ⟨hin9, hE9⟩ := hB_28
    subst hE9
    exact mm_aret (v := .ref b_28) hx hb hr rfl hlk hS (Nat.le_of_ble_eq_true rfl) (Nat.le_of_ble_eq_true rfl) (Or.inr ⟨_, rfl⟩) (⟨_, rfl, hin9, rfl⟩) dX5_element_31
