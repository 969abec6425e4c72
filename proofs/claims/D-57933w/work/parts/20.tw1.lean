/-! the twin: small readers (printed by tools/tw1.py) -/
set_option maxRecDepth 100000 in
theorem t_one (l : Launch) {G : mm_G} {P : mm_H} {H : Heap} {b : Bool}  : Mt l yX8_one (ws_ yX8_one cX8_one 1 (some .int)) 0 0 0 0 G P [.int (mm_b b)] H mm_0 (mm_pu (.int (mm_b b)) H) := by
  refine Mt.of (by decide) (Nat.le_of_ble_eq_true rfl) (fun p e s m below meth c ls hx hb hr hlk hml hown hnm hts hKK hsH hl hS => ?_)
  have hl : lv_has ls 1 [(0, .int (mm_b b))] := hl
  refine lv_iload_n hx hb dX8_one_0 rfl (lv_at hl 0 rfl) ?_
  refine mm_ifeqB (tgt := 8) hx hb dX8_one_1 (by decide) (fun c_1 => ?_) (fun c_1 => ?_)
  · refine lv_iconst (v := nI 0) hx hb dX8_one_8 (by decide) ?_
    exact mm_iret (v := nI 0) hx hb hr hlk hS (Nat.le_of_ble_eq_true rfl) (Nat.le_of_ble_eq_true rfl) (⟨by first | (rw [mm_b_n1 c_1]) | (rw [mm_b_n0 c_1]), rfl⟩) dX8_one_9
  · refine lv_iconst (v := nI 1) hx hb dX8_one_4 (by decide) ?_
    refine lv_goto (tgt := 9) hx hb dX8_one_5 (by decide) ?_
    exact mm_iret (v := nI 1) hx hb hr hlk hS (Nat.le_of_ble_eq_true rfl) (Nat.le_of_ble_eq_true rfl) (⟨by first | (rw [mm_b_n1 c_1]) | (rw [mm_b_n0 c_1]), rfl⟩) dX8_one_9
set_option maxRecDepth 100000 in
theorem t_isWithin (l : Launch) {G : mm_G} {P : mm_H} {H : Heap} {a b c9 : Int64}  : Mt l yX8_isWithin (ws_ yX8_isWithin cX8_isWithin 6 (some .boolean)) 0 0 0 0 G P [.long a, .long b, .long c9] H mm_0 (mm_pu (.int (mm_b (decide (b ≤ a ∧ a ≤ c9)))) H) := by
  refine Mt.of (by decide) (Nat.le_of_ble_eq_true rfl) (fun p e s m below meth c ls hx hb hr hlk hml hown hnm hts hKK hsH hl hS => ?_)
  have hl : lv_has ls 6 [(0, .long a), (2, .long b), (4, .long c9)] := hl
  refine lv_lload_n hx hb dX8_isWithin_0 rfl (lv_at hl 0 rfl) ?_
  refine lv_lload_n hx hb dX8_isWithin_1 rfl (lv_at hl 1 rfl) ?_
  refine W.lcmp hx hb dX8_isWithin_2 ?_
  refine mm_lcmp_lt (tgt := 17) hx hb dX8_isWithin_3 (by decide) (fun c_3 => ?_) (fun c_3 => ?_)
  · refine lv_iconst (v := nI 0) hx hb dX8_isWithin_17 (by decide) ?_
    exact mm_zret (v := nI 0) hx hb hr hlk hS (Nat.le_of_ble_eq_true rfl) (Nat.le_of_ble_eq_true rfl) (rfl) (⟨by first | exact mm_d1 ⟨Int64.not_lt.mp c_3, Int64.not_lt.mp c_10⟩ | exact mm_d0 (fun z => Int64.not_lt.mpr z.1 c_3) | exact mm_d0 (fun z => Int64.not_lt.mpr z.2 c_10), rfl⟩) dX8_isWithin_18
  · refine lv_lload_n hx hb dX8_isWithin_6 rfl (lv_at hl 0 rfl) ?_
    refine lv_lload hx hb dX8_isWithin_7 (lv_at hl 2 rfl) ?_
    refine W.lcmp hx hb dX8_isWithin_9 ?_
    refine mm_lcmp_gt (tgt := 17) hx hb dX8_isWithin_10 (by decide) (fun c_10 => ?_) (fun c_10 => ?_)
    · refine lv_iconst (v := nI 0) hx hb dX8_isWithin_17 (by decide) ?_
      exact mm_zret (v := nI 0) hx hb hr hlk hS (Nat.le_of_ble_eq_true rfl) (Nat.le_of_ble_eq_true rfl) (rfl) (⟨by first | exact mm_d1 ⟨Int64.not_lt.mp c_3, Int64.not_lt.mp c_10⟩ | exact mm_d0 (fun z => Int64.not_lt.mpr z.1 c_3) | exact mm_d0 (fun z => Int64.not_lt.mpr z.2 c_10), rfl⟩) dX8_isWithin_18
    · refine lv_iconst (v := nI 1) hx hb dX8_isWithin_13 (by decide) ?_
      refine lv_goto (tgt := 18) hx hb dX8_isWithin_14 (by decide) ?_
      exact mm_zret (v := nI 1) hx hb hr hlk hS (Nat.le_of_ble_eq_true rfl) (Nat.le_of_ble_eq_true rfl) (rfl) (⟨by first | exact mm_d1 ⟨Int64.not_lt.mp c_3, Int64.not_lt.mp c_10⟩ | exact mm_d0 (fun z => Int64.not_lt.mpr z.1 c_3) | exact mm_d0 (fun z => Int64.not_lt.mpr z.2 c_10), rfl⟩) dX8_isWithin_18
set_option maxRecDepth 100000 in
theorem t_v (l : Launch) {G : mm_G} {P : mm_H} {H : Heap} {k : Nat}  : Mt l yX8_v (ws_ yX8_v cX8_v 1 (some .int)) 0 0 0 0 G P [.int (nI k)] H mm_0 (mm_pu (.int (nI (10 + 6 * k))) H) := by
  refine Mt.of (by decide) (Nat.le_of_ble_eq_true rfl) (fun p e s m below meth c ls hx hb hr hlk hml hown hnm hts hKK hsH hl hS => ?_)
  have hl : lv_has ls 1 [(0, .int (nI k))] := hl
  refine lv_bipush (v := nI 10) hx hb dX8_v_0 (by decide) ?_
  refine lv_bipush (v := nI 6) hx hb dX8_v_2 (by decide) ?_
  refine lv_iload_n hx hb dX8_v_4 rfl (lv_at hl 0 rfl) ?_
  refine mm_imul hx hb dX8_v_5 ?_
  refine mm_iadd hx hb dX8_v_6 ?_
  exact mm_iret (v := nI (10 + 6 * k)) hx hb hr hlk hS (Nat.le_of_ble_eq_true rfl) (Nat.le_of_ble_eq_true rfl) (⟨rfl, rfl⟩) dX8_v_7
set_option maxRecDepth 100000 in
theorem t_e (l : Launch) {G : mm_G} {P : mm_H} {H : Heap} {k : Nat}  : Mt l yX8_e (ws_ yX8_e cX8_e 1 (some .int)) 0 0 0 0 G P [.int (nI k)] H mm_0 (mm_pu (.int (nI (250 + 64 * k))) H) := by
  refine Mt.of (by decide) (Nat.le_of_ble_eq_true rfl) (fun p e s m below meth c ls hx hb hr hlk hml hown hnm hts hKK hsH hl hS => ?_)
  have hl : lv_has ls 1 [(0, .int (nI k))] := hl
  refine lv_sipush (v := nI 250) hx hb dX8_e_0 (by decide) ?_
  refine lv_bipush (v := nI 64) hx hb dX8_e_3 (by decide) ?_
  refine lv_iload_n hx hb dX8_e_5 rfl (lv_at hl 0 rfl) ?_
  refine mm_imul hx hb dX8_e_6 ?_
  refine mm_iadd hx hb dX8_e_7 ?_
  exact mm_iret (v := nI (250 + 64 * k)) hx hb hr hlk hS (Nat.le_of_ble_eq_true rfl) (Nat.le_of_ble_eq_true rfl) (⟨rfl, rfl⟩) dX8_e_8
set_option maxRecDepth 100000 in
theorem t_n (l : Launch) {G : mm_G} {P : mm_H} {H : Heap} {k : Nat}  : Mt l yX8_n (ws_ yX8_n cX8_n 1 (some .int)) 0 0 0 0 G P [.int (nI k)] H mm_0 (mm_pu (.int (nI (2810 + 7 * k))) H) := by
  refine Mt.of (by decide) (Nat.le_of_ble_eq_true rfl) (fun p e s m below meth c ls hx hb hr hlk hml hown hnm hts hKK hsH hl hS => ?_)
  have hl : lv_has ls 1 [(0, .int (nI k))] := hl
  refine lv_sipush (v := nI 2810) hx hb dX8_n_0 (by decide) ?_
  refine lv_bipush (v := nI 7) hx hb dX8_n_3 (by decide) ?_
  refine lv_iload_n hx hb dX8_n_5 rfl (lv_at hl 0 rfl) ?_
  refine mm_imul hx hb dX8_n_6 ?_
  refine mm_iadd hx hb dX8_n_7 ?_
  exact mm_iret (v := nI (2810 + 7 * k)) hx hb hr hlk hS (Nat.le_of_ble_eq_true rfl) (Nat.le_of_ble_eq_true rfl) (⟨rfl, rfl⟩) dX8_n_8
set_option maxRecDepth 100000 in
theorem t_span (l : Launch) {G : mm_G} {P : mm_H} {H : Heap} {h : Nat} (hh : h ≤ 10) : Mt l yX8_span (ws_ yX8_span cX8_span 3 (some .int)) 0 0 0 0 G P [.int (nI h)] H mm_0 (mm_pu (.int (nI (4 ^ h))) H) := by
  refine Mt.of (by decide) (Nat.le_of_ble_eq_true rfl) (fun p e s m below meth c ls hx hb hr hlk hml hown hnm hts hKK hsH hl hS => ?_)
  have hl : lv_has ls 3 [(0, .int (nI h))] := hl
  refine lv_iconst (v := nI 1) hx hb dX8_span_0 (by decide) ?_
  refine lv_istore_n (lv' := [(1, .int (nI 1)), (0, .int (nI h))]) hx hb dX8_span_1 rfl hl (by decide) rfl (fun ls hl => ?_)
  refine lv_iconst (v := nI 0) hx hb dX8_span_2 (by decide) ?_
  refine lv_istore_n (lv' := [(2, .int (nI 0)), (1, .int (nI 1)), (0, .int (nI h))]) hx hb dX8_span_3 rfl hl (by decide) rfl (fun ls hl => ?_)
  have lp_4 : ∀ (fu : Nat) (i : Nat)  (L : List Loc) (ls : Array Slot), h - i < fu → i ≤ h → lv_has ls 3 [(1, .int (nI (4 ^ i))), (2, .int (nI i)), (0, .int (nI h))] → va_S (mm_A mm_0 H) H H L → W p l e (mm_rm 0 0 0 0) s m ([.int (nI h)] : List Value).toArray below meth c H L 0 0 (MQ below (mm_Qc H mm_0 (mm_pu (.int (nI (4 ^ h))) H)) ([.int (nI h)] : List Value).toArray s 0 0 (mm_A mm_0 H)) (F0 m 4 ls []) := by
    intro fu; induction fu with
    | zero => intro i L ls hfu; exact absurd hfu (Nat.not_lt_zero _)
    | succ fu ih =>
      intro i L ls hfu hi hl  hS
      have ih_4 := ih
      refine lv_iload_n hx hb dX8_span_4 rfl (lv_at hl 1 rfl) ?_
      refine lv_iload_n hx hb dX8_span_5 rfl (lv_at hl 2 rfl) ?_
      refine mm_icmp_ge (tgt := 19) (by omega) (by omega) hx hb dX8_span_6 (by decide) (fun c_6 => ?_) (fun c_6 => ?_)
      · refine lv_iload_n hx hb dX8_span_19 rfl (lv_at hl 0 rfl) ?_
        exact mm_iret (v := nI (4 ^ i)) hx hb hr hlk hS (Nat.le_of_ble_eq_true rfl) (Nat.le_of_ble_eq_true rfl) (⟨by rw [show h = i by omega], rfl⟩) dX8_span_20
      · refine lv_iload_n hx hb dX8_span_9 rfl (lv_at hl 0 rfl) ?_
        refine lv_iconst (v := nI 4) hx hb dX8_span_10 (by decide) ?_
        refine mm_imul hx hb dX8_span_11 ?_
        refine mm_top (y := nI (4 ^ (i + 1))) (by rw [Nat.pow_succ]) ?_
        refine lv_istore_n (lv' := [(1, .int (nI ((4 ^ i) * 4))), (2, .int (nI i)), (0, .int (nI h))]) hx hb dX8_span_12 rfl hl (by decide) rfl (fun ls hl => ?_)
        refine lv_iinc (v := nI (i + 1)) (lv' := [(2, .int (nI (i + 1))), (1, .int (nI ((4 ^ i) * 4))), (0, .int (nI h))]) hx hb dX8_span_13 hl (k := 1) rfl (nI_add _ _) (by decide) rfl (fun ls hl => ?_)
        refine lv_goto (tgt := 4) hx hb dX8_span_16 (by decide) ?_
        exact ih_4 (i + 1) _ _ (by omega) (by omega) (lv_sub hl [1, 0, 2] rfl)  hS
  exact lp_4 _ 0 _ _ (Nat.lt_succ_self _) (by omega) (lv_sub hl [1, 0, 2] rfl)  hS
set_option maxRecDepth 100000 in
theorem t_heightFor (l : Launch) {G : mm_G} {P : mm_H} {H : Heap} {n : Nat} (hn : n ≤ 64) : Mt l yX8_heightFor (ws_ yX8_heightFor cX8_heightFor 2 (some .int)) 1 22 0 0 G P [.int (nI n)] H mm_0 (mm_pu (.int (nI (hf n))) H) := by
  refine Mt.of (by decide) (Nat.le_of_ble_eq_true rfl) (fun p e s m below meth c ls hx hb hr hlk hml hown hnm hts hKK hsH hl hS => ?_)
  have hl : lv_has ls 2 [(0, .int (nI n))] := hl
  refine lv_iload_n hx hb dX8_heightFor_0 rfl (lv_at hl 0 rfl) ?_
  refine mm_if_ne (tgt := 6) (by omega) hx hb dX8_heightFor_1 (by decide) (fun c_1 => ?_) (fun c_1 => ?_)
  · refine lv_iconst (v := nI 1) hx hb dX8_heightFor_6 (by decide) ?_
    refine lv_istore_n (lv' := [(1, .int (nI 1)), (0, .int (nI n))]) hx hb dX8_heightFor_7 rfl hl (by decide) rfl (fun ls hl => ?_)
    have lp_8 : ∀ (fu : Nat) (h : Nat)  (L : List Loc) (ls : Array Slot), 4 - h < fu → h = 1 ∨ (h = 2 ∧ 4 < n) ∨ (h = 3 ∧ 16 < n) → lv_has ls 2 [(1, .int (nI h)), (0, .int (nI n))] → va_S (mm_A mm_0 H) H H L → W p l e (mm_rm 1 22 0 0) s m ([.int (nI n)] : List Value).toArray below meth c H L 0 0 (MQ below (mm_Qc H mm_0 (mm_pu (.int (nI (hf n))) H)) ([.int (nI n)] : List Value).toArray s 0 0 (mm_A mm_0 H)) (F0 m 8 ls []) := by
      intro fu; induction fu with
      | zero => intro h L ls hfu; exact absurd hfu (Nat.not_lt_zero _)
      | succ fu ih =>
        intro h L ls hfu hi hl  hS
        have ih_8 := ih
        have hp : 4 ^ h ≤ 64 := by rcases hi with rfl | ⟨rfl, h4⟩ | ⟨rfl, h4⟩ <;> decide
        have hh : h ≤ 3 := by omega
        refine lv_iload_n hx hb dX8_heightFor_8 rfl (lv_at hl 0 rfl) ?_
        refine mm_rpu (va_runS (As := [.int (nI h)]) (rest := []) ⟨hx, hb, hml, hown, hts⟩ (t_span l (by omega)) (va_cwS 1 hts (lw_S q2484 q2485 q164 q2486) rfl rfl rfl (by decide +kernel) ⟨Nat.le_of_ble_eq_true rfl, Nat.le_of_ble_eq_true rfl⟩) (mm_pS hKK) rfl rfl hl.1 rfl (lv_room (Nat.le_of_ble_eq_true rfl)) dX8_heightFor_9 ⟨Nat.le_of_ble_eq_true rfl, Nat.le_of_ble_eq_true rfl⟩) hS (mm_s0 hS) (fun L_9 hS => ?_)
        refine lv_iload_n hx hb dX8_heightFor_12 rfl (lv_at hl 1 rfl) ?_
        refine mm_icmp_ge (tgt := 22) (by omega) (by omega) hx hb dX8_heightFor_13 (by decide) (fun c_13 => ?_) (fun c_13 => ?_)
        · refine lv_iload_n hx hb dX8_heightFor_22 rfl (lv_at hl 0 rfl) ?_
          exact mm_iret (v := nI h) hx hb hr hlk hS (Nat.le_of_ble_eq_true rfl) (Nat.le_of_ble_eq_true rfl) (⟨by rw [hf_of hi hn c_1 c_13], rfl⟩) dX8_heightFor_23
        · refine lv_iinc (v := nI (h + 1)) (lv' := [(1, .int (nI (h + 1))), (0, .int (nI n))]) hx hb dX8_heightFor_16 hl (k := 0) rfl (nI_add _ _) (by decide) rfl (fun ls hl => ?_)
          refine lv_goto (tgt := 8) hx hb dX8_heightFor_19 (by decide) ?_
          exact ih_8 (h + 1) _ _ (by omega) (by rcases hi with rfl | ⟨rfl, h4⟩ | ⟨rfl, h4⟩; exact Or.inr (Or.inl ⟨rfl, by simpa using c_13⟩); exact Or.inr (Or.inr ⟨rfl, by simpa using c_13⟩); exact absurd c_13 (by simp; omega)) (lv_sub hl [0, 1] rfl)  hS
    exact lp_8 _ 1 _ _ (Nat.lt_succ_self _) (Or.inl rfl) (lv_sub hl [0, 1] rfl)  hS
  · refine lv_iconst (v := nI 0) hx hb dX8_heightFor_4 (by decide) ?_
    exact mm_iret (v := nI 0) hx hb hr hlk hS (Nat.le_of_ble_eq_true rfl) (Nat.le_of_ble_eq_true rfl) (⟨by rw [show n = 0 from c_1]; rfl, rfl⟩) dX8_heightFor_5
set_option maxRecDepth 100000 in
theorem t_isLeafNode (l : Launch) {G : mm_G} {P : mm_H} {H : Heap} {x : Nat} {ad : Nat → Nat} {I : Nat → Int32} {F : Nat → Nat → Int32} {S : sp_S} {k : Nat} (hT : TW G x ad I F H) (hR : TR (F 0) S) (hW : WF S) (hk : k < s_nn S)  : Mt l yX8_isLeafNode (ws_ yX8_isLeafNode cX8_isLeafNode 2 (some .boolean)) 1 27 0 0 G P [.ref x, .int (nI k)] H mm_0 (mm_pu (.int (mm_b (s_leaf S k))) H) := by
  refine Mt.of (by decide) (Nat.le_of_ble_eq_true rfl) (fun p e s m below meth c ls hx hb hr hlk hml hown hnm hts hKK hsH hl hS => ?_)
  have hl : lv_has ls 2 [(0, .ref x), (1, .int (nI k))] := hl
  have hnv := hW.nv
  have hnn := hW.nn
  refine lv_aload_n hx hb dX8_isLeafNode_0 rfl (lv_at hl 0 rfl) ?_
  refine tw_geta 0 hx hb hts hown hKK hT rfl rfl (hts _ q2498) dX8_isLeafNode_1 ?_
  refine lv_iload_n hx hb dX8_isLeafNode_4 rfl (lv_at hl 1 rfl) ?_
  refine mm_rpu (va_runS (As := [.int (nI k)]) (rest := [.ref (ad 0)]) ⟨hx, hb, hml, hown, hts⟩ (t_n l ) (va_cwS 1 hts (lw_S q2464 q2465 q164 q2466) rfl rfl rfl (by decide +kernel) ⟨Nat.le_of_ble_eq_true rfl, Nat.le_of_ble_eq_true rfl⟩) (mm_pS hKK) rfl rfl hl.1 rfl (lv_room (Nat.le_of_ble_eq_true rfl)) dX8_isLeafNode_5 ⟨Nat.le_of_ble_eq_true rfl, Nat.le_of_ble_eq_true rfl⟩) hS (mm_s0 hS) (fun L_5 hS => ?_)
  refine lv_iconst (v := nI 0) hx hb dX8_isLeafNode_8 (by decide) ?_
  refine mm_iadd hx hb dX8_isLeafNode_9 ?_
  refine mm_top (y := nI (2810 + 7 * k)) (congrArg nI (by omega)) ?_
  refine mm_iald (k := (2810 + 7 * k)) hx hb hKK (hT.2.2 0 rfl) mm_le.rf (by show _ < 4210; omega) (by decide) dX8_isLeafNode_10 ?_
  refine mm_top (y := mm_b (s_leaf S k)) (hR.leaf hk) ?_
  refine lv_iconst (v := nI 1) hx hb dX8_isLeafNode_11 (by decide) ?_
  refine mm_icmp_neB1 (tgt := 19) hx hb dX8_isLeafNode_12 (by decide) (fun c_12 => ?_) (fun c_12 => ?_)
  · refine lv_iconst (v := nI 0) hx hb dX8_isLeafNode_19 (by decide) ?_
    exact mm_zret (v := nI 0) hx hb hr hlk hS (Nat.le_of_ble_eq_true rfl) (Nat.le_of_ble_eq_true rfl) (rfl) (⟨by first | exact mm_e1 c_12 | exact mm_e0 c_12, rfl⟩) dX8_isLeafNode_20
  · refine lv_iconst (v := nI 1) hx hb dX8_isLeafNode_15 (by decide) ?_
    refine lv_goto (tgt := 20) hx hb dX8_isLeafNode_16 (by decide) ?_
    exact mm_zret (v := nI 1) hx hb hr hlk hS (Nat.le_of_ble_eq_true rfl) (Nat.le_of_ble_eq_true rfl) (rfl) (⟨by first | exact mm_e1 c_12 | exact mm_e0 c_12, rfl⟩) dX8_isLeafNode_20
set_option maxRecDepth 100000 in
theorem t_countOf (l : Launch) {G : mm_G} {P : mm_H} {H : Heap} {x : Nat} {ad : Nat → Nat} {I : Nat → Int32} {F : Nat → Nat → Int32} {S : sp_S} {k : Nat} (hT : TW G x ad I F H) (hR : TR (F 0) S) (hW : WF S) (hk : k < s_nn S)  : Mt l yX8_countOf (ws_ yX8_countOf cX8_countOf 2 (some .int)) 1 27 0 0 G P [.ref x, .int (nI k)] H mm_0 (mm_pu (.int (nI (s_cnt S k))) H) := by
  refine Mt.of (by decide) (Nat.le_of_ble_eq_true rfl) (fun p e s m below meth c ls hx hb hr hlk hml hown hnm hts hKK hsH hl hS => ?_)
  have hl : lv_has ls 2 [(0, .ref x), (1, .int (nI k))] := hl
  have hnv := hW.nv
  have hnn := hW.nn
  refine lv_aload_n hx hb dX8_countOf_0 rfl (lv_at hl 0 rfl) ?_
  refine tw_geta 0 hx hb hts hown hKK hT rfl rfl (hts _ q2498) dX8_countOf_1 ?_
  refine lv_iload_n hx hb dX8_countOf_4 rfl (lv_at hl 1 rfl) ?_
  refine mm_rpu (va_runS (As := [.int (nI k)]) (rest := [.ref (ad 0)]) ⟨hx, hb, hml, hown, hts⟩ (t_n l ) (va_cwS 1 hts (lw_S q2464 q2465 q164 q2466) rfl rfl rfl (by decide +kernel) ⟨Nat.le_of_ble_eq_true rfl, Nat.le_of_ble_eq_true rfl⟩) (mm_pS hKK) rfl rfl hl.1 rfl (lv_room (Nat.le_of_ble_eq_true rfl)) dX8_countOf_5 ⟨Nat.le_of_ble_eq_true rfl, Nat.le_of_ble_eq_true rfl⟩) hS (mm_s0 hS) (fun L_5 hS => ?_)
  refine lv_iconst (v := nI 1) hx hb dX8_countOf_8 (by decide) ?_
  refine mm_iadd hx hb dX8_countOf_9 ?_
  refine mm_iald (k := (2810 + 7 * k + 1)) hx hb hKK (hT.2.2 0 rfl) mm_le.rf (by show _ < 4210; omega) (by decide) dX8_countOf_10 ?_
  refine mm_top (y := nI (s_cnt S k)) (hR.cnt hk) ?_
  exact mm_iret (v := nI (s_cnt S k)) hx hb hr hlk hS (Nat.le_of_ble_eq_true rfl) (Nat.le_of_ble_eq_true rfl) (⟨rfl, rfl⟩) dX8_countOf_11
set_option maxRecDepth 100000 in
theorem t_lengthOf (l : Launch) {G : mm_G} {P : mm_H} {H : Heap} {x : Nat} {ad : Nat → Nat} {I : Nat → Int32} {F : Nat → Nat → Int32} {S : sp_S} {k : Nat} (hT : TW G x ad I F H) (hR : TR (F 0) S) (hW : WF S) (hk : k < s_nv S)  : Mt l yX8_lengthOf (ws_ yX8_lengthOf cX8_lengthOf 2 (some .int)) 1 27 0 0 G P [.ref x, .int (nI k)] H mm_0 (mm_pu (.int (nI (s_len S k))) H) := by
  refine Mt.of (by decide) (Nat.le_of_ble_eq_true rfl) (fun p e s m below meth c ls hx hb hr hlk hml hown hnm hts hKK hsH hl hS => ?_)
  have hl : lv_has ls 2 [(0, .ref x), (1, .int (nI k))] := hl
  have hnv := hW.nv
  have hnn := hW.nn
  refine lv_aload_n hx hb dX8_lengthOf_0 rfl (lv_at hl 0 rfl) ?_
  refine tw_geta 0 hx hb hts hown hKK hT rfl rfl (hts _ q2498) dX8_lengthOf_1 ?_
  refine lv_iload_n hx hb dX8_lengthOf_4 rfl (lv_at hl 1 rfl) ?_
  refine mm_rpu (va_runS (As := [.int (nI k)]) (rest := [.ref (ad 0)]) ⟨hx, hb, hml, hown, hts⟩ (t_v l ) (va_cwS 1 hts (lw_S q2478 q2479 q164 q2480) rfl rfl rfl (by decide +kernel) ⟨Nat.le_of_ble_eq_true rfl, Nat.le_of_ble_eq_true rfl⟩) (mm_pS hKK) rfl rfl hl.1 rfl (lv_room (Nat.le_of_ble_eq_true rfl)) dX8_lengthOf_5 ⟨Nat.le_of_ble_eq_true rfl, Nat.le_of_ble_eq_true rfl⟩) hS (mm_s0 hS) (fun L_5 hS => ?_)
  refine lv_iconst (v := nI 0) hx hb dX8_lengthOf_8 (by decide) ?_
  refine mm_iadd hx hb dX8_lengthOf_9 ?_
  refine mm_top (y := nI (10 + 6 * k)) (congrArg nI (by omega)) ?_
  refine mm_iald (k := (10 + 6 * k)) hx hb hKK (hT.2.2 0 rfl) mm_le.rf (by show _ < 4210; omega) (by decide) dX8_lengthOf_10 ?_
  refine mm_top (y := nI (s_len S k)) (hR.len hk) ?_
  exact mm_iret (v := nI (s_len S k)) hx hb hr hlk hS (Nat.le_of_ble_eq_true rfl) (Nat.le_of_ble_eq_true rfl) (⟨rfl, rfl⟩) dX8_lengthOf_11
set_option maxRecDepth 100000 in
theorem t_root (l : Launch) {G : mm_G} {P : mm_H} {H : Heap} {x : Nat} {ad : Nat → Nat} {I : Nat → Int32} {F : Nat → Nat → Int32} {S : sp_S} {k : Nat} (hT : TW G x ad I F H) (hR : TR (F 0) S) (hW : WF S) (hk : k < s_nv S)  : Mt l yX8_root (ws_ yX8_root cX8_root 2 (some .int)) 1 27 0 0 G P [.ref x, .int (nI k)] H mm_0 (mm_pu (.int (oI (s_root S k))) H) := by
  refine Mt.of (by decide) (Nat.le_of_ble_eq_true rfl) (fun p e s m below meth c ls hx hb hr hlk hml hown hnm hts hKK hsH hl hS => ?_)
  have hl : lv_has ls 2 [(0, .ref x), (1, .int (nI k))] := hl
  have hnv := hW.nv
  have hnn := hW.nn
  refine lv_aload_n hx hb dX8_root_0 rfl (lv_at hl 0 rfl) ?_
  refine tw_geta 0 hx hb hts hown hKK hT rfl rfl (hts _ q2498) dX8_root_1 ?_
  refine lv_iload_n hx hb dX8_root_4 rfl (lv_at hl 1 rfl) ?_
  refine mm_rpu (va_runS (As := [.int (nI k)]) (rest := [.ref (ad 0)]) ⟨hx, hb, hml, hown, hts⟩ (t_v l ) (va_cwS 1 hts (lw_S q2478 q2479 q164 q2480) rfl rfl rfl (by decide +kernel) ⟨Nat.le_of_ble_eq_true rfl, Nat.le_of_ble_eq_true rfl⟩) (mm_pS hKK) rfl rfl hl.1 rfl (lv_room (Nat.le_of_ble_eq_true rfl)) dX8_root_5 ⟨Nat.le_of_ble_eq_true rfl, Nat.le_of_ble_eq_true rfl⟩) hS (mm_s0 hS) (fun L_5 hS => ?_)
  refine lv_iconst (v := nI 1) hx hb dX8_root_8 (by decide) ?_
  refine mm_iadd hx hb dX8_root_9 ?_
  refine mm_iald (k := (10 + 6 * k + 1)) hx hb hKK (hT.2.2 0 rfl) mm_le.rf (by show _ < 4210; omega) (by decide) dX8_root_10 ?_
  refine mm_top (y := oI (s_root S k)) (hR.root hk) ?_
  exact mm_iret (v := oI (s_root S k)) hx hb hr hlk hS (Nat.le_of_ble_eq_true rfl) (Nat.le_of_ble_eq_true rfl) (⟨rfl, rfl⟩) dX8_root_11
set_option maxRecDepth 100000 in
theorem t_heightOf (l : Launch) {G : mm_G} {P : mm_H} {H : Heap} {x : Nat} {ad : Nat → Nat} {I : Nat → Int32} {F : Nat → Nat → Int32} {S : sp_S} {k : Nat} (hT : TW G x ad I F H) (hR : TR (F 0) S) (hW : WF S) (hk : k < s_nv S)  : Mt l yX8_heightOf (ws_ yX8_heightOf cX8_heightOf 2 (some .int)) 1 27 0 0 G P [.ref x, .int (nI k)] H mm_0 (mm_pu (.int (nI (hf (s_len S k)))) H) := by
  refine Mt.of (by decide) (Nat.le_of_ble_eq_true rfl) (fun p e s m below meth c ls hx hb hr hlk hml hown hnm hts hKK hsH hl hS => ?_)
  have hl : lv_has ls 2 [(0, .ref x), (1, .int (nI k))] := hl
  have hnv := hW.nv
  have hnn := hW.nn
  refine lv_aload_n hx hb dX8_heightOf_0 rfl (lv_at hl 0 rfl) ?_
  refine tw_geta 0 hx hb hts hown hKK hT rfl rfl (hts _ q2498) dX8_heightOf_1 ?_
  refine lv_iload_n hx hb dX8_heightOf_4 rfl (lv_at hl 1 rfl) ?_
  refine mm_rpu (va_runS (As := [.int (nI k)]) (rest := [.ref (ad 0)]) ⟨hx, hb, hml, hown, hts⟩ (t_v l ) (va_cwS 1 hts (lw_S q2478 q2479 q164 q2480) rfl rfl rfl (by decide +kernel) ⟨Nat.le_of_ble_eq_true rfl, Nat.le_of_ble_eq_true rfl⟩) (mm_pS hKK) rfl rfl hl.1 rfl (lv_room (Nat.le_of_ble_eq_true rfl)) dX8_heightOf_5 ⟨Nat.le_of_ble_eq_true rfl, Nat.le_of_ble_eq_true rfl⟩) hS (mm_s0 hS) (fun L_5 hS => ?_)
  refine lv_iconst (v := nI 2) hx hb dX8_heightOf_8 (by decide) ?_
  refine mm_iadd hx hb dX8_heightOf_9 ?_
  refine mm_iald (k := (10 + 6 * k + 2)) hx hb hKK (hT.2.2 0 rfl) mm_le.rf (by show _ < 4210; omega) (by decide) dX8_heightOf_10 ?_
  refine mm_top (y := nI (hf (s_len S k))) (hR.hgt hk) ?_
  exact mm_iret (v := nI (hf (s_len S k))) hx hb hr hlk hS (Nat.le_of_ble_eq_true rfl) (Nat.le_of_ble_eq_true rfl) (⟨rfl, rfl⟩) dX8_heightOf_11
set_option maxRecDepth 100000 in
theorem t_isGone (l : Launch) {G : mm_G} {P : mm_H} {H : Heap} {x : Nat} {ad : Nat → Nat} {I : Nat → Int32} {F : Nat → Nat → Int32} {S : sp_S} {k : Nat} (hT : TW G x ad I F H) (hR : TR (F 0) S) (hW : WF S) (hk : k < s_nv S)  : Mt l yX8_isGone (ws_ yX8_isGone cX8_isGone 2 (some .boolean)) 1 27 0 0 G P [.ref x, .int (nI k)] H mm_0 (mm_pu (.int (mm_b (s_rel S k))) H) := by
  refine Mt.of (by decide) (Nat.le_of_ble_eq_true rfl) (fun p e s m below meth c ls hx hb hr hlk hml hown hnm hts hKK hsH hl hS => ?_)
  have hl : lv_has ls 2 [(0, .ref x), (1, .int (nI k))] := hl
  have hnv := hW.nv
  have hnn := hW.nn
  refine lv_aload_n hx hb dX8_isGone_0 rfl (lv_at hl 0 rfl) ?_
  refine tw_geta 0 hx hb hts hown hKK hT rfl rfl (hts _ q2498) dX8_isGone_1 ?_
  refine lv_iload_n hx hb dX8_isGone_4 rfl (lv_at hl 1 rfl) ?_
  refine mm_rpu (va_runS (As := [.int (nI k)]) (rest := [.ref (ad 0)]) ⟨hx, hb, hml, hown, hts⟩ (t_v l ) (va_cwS 1 hts (lw_S q2478 q2479 q164 q2480) rfl rfl rfl (by decide +kernel) ⟨Nat.le_of_ble_eq_true rfl, Nat.le_of_ble_eq_true rfl⟩) (mm_pS hKK) rfl rfl hl.1 rfl (lv_room (Nat.le_of_ble_eq_true rfl)) dX8_isGone_5 ⟨Nat.le_of_ble_eq_true rfl, Nat.le_of_ble_eq_true rfl⟩) hS (mm_s0 hS) (fun L_5 hS => ?_)
  refine lv_iconst (v := nI 4) hx hb dX8_isGone_8 (by decide) ?_
  refine mm_iadd hx hb dX8_isGone_9 ?_
  refine mm_iald (k := (10 + 6 * k + 4)) hx hb hKK (hT.2.2 0 rfl) mm_le.rf (by show _ < 4210; omega) (by decide) dX8_isGone_10 ?_
  refine mm_top (y := mm_b (s_rel S k)) (hR.rel hk) ?_
  refine lv_iconst (v := nI 1) hx hb dX8_isGone_11 (by decide) ?_
  refine mm_icmp_neB1 (tgt := 19) hx hb dX8_isGone_12 (by decide) (fun c_12 => ?_) (fun c_12 => ?_)
  · refine lv_iconst (v := nI 0) hx hb dX8_isGone_19 (by decide) ?_
    exact mm_zret (v := nI 0) hx hb hr hlk hS (Nat.le_of_ble_eq_true rfl) (Nat.le_of_ble_eq_true rfl) (rfl) (⟨by first | exact mm_e1 c_12 | exact mm_e0 c_12, rfl⟩) dX8_isGone_20
  · refine lv_iconst (v := nI 1) hx hb dX8_isGone_15 (by decide) ?_
    refine lv_goto (tgt := 20) hx hb dX8_isGone_16 (by decide) ?_
    exact mm_zret (v := nI 1) hx hb hr hlk hS (Nat.le_of_ble_eq_true rfl) (Nat.le_of_ble_eq_true rfl) (rfl) (⟨by first | exact mm_e1 c_12 | exact mm_e0 c_12, rfl⟩) dX8_isGone_20
set_option maxRecDepth 100000 in
theorem t_entry (l : Launch) {G : mm_G} {P : mm_H} {H : Heap} {x : Nat} {ad : Nat → Nat} {I : Nat → Int32} {F : Nat → Nat → Int32} {S : sp_S} {k i : Nat} (hT : TW G x ad I F H) (hR : TR (F 0) S) (hW : WF S) (hk : k < s_nn S) (hi : i < s_cnt S k) : Mt l yX8_entry (ws_ yX8_entry cX8_entry 3 (some .int)) 1 27 0 0 G P [.ref x, .int (nI k), .int (nI i)] H mm_0 (mm_pu (.int (s_ent S k i)) H) := by
  refine Mt.of (by decide) (Nat.le_of_ble_eq_true rfl) (fun p e s m below meth c ls hx hb hr hlk hml hown hnm hts hKK hsH hl hS => ?_)
  have hl : lv_has ls 3 [(0, .ref x), (1, .int (nI k)), (2, .int (nI i))] := hl
  have hnv := hW.nv
  have hnn := hW.nn
  have hc := hW.cnt hk
  refine lv_aload_n hx hb dX8_entry_0 rfl (lv_at hl 0 rfl) ?_
  refine tw_geta 0 hx hb hts hown hKK hT rfl rfl (hts _ q2498) dX8_entry_1 ?_
  refine lv_iload_n hx hb dX8_entry_4 rfl (lv_at hl 1 rfl) ?_
  refine mm_rpu (va_runS (As := [.int (nI k)]) (rest := [.ref (ad 0)]) ⟨hx, hb, hml, hown, hts⟩ (t_n l ) (va_cwS 1 hts (lw_S q2464 q2465 q164 q2466) rfl rfl rfl (by decide +kernel) ⟨Nat.le_of_ble_eq_true rfl, Nat.le_of_ble_eq_true rfl⟩) (mm_pS hKK) rfl rfl hl.1 rfl (lv_room (Nat.le_of_ble_eq_true rfl)) dX8_entry_5 ⟨Nat.le_of_ble_eq_true rfl, Nat.le_of_ble_eq_true rfl⟩) hS (mm_s0 hS) (fun L_5 hS => ?_)
  refine lv_iconst (v := nI 2) hx hb dX8_entry_8 (by decide) ?_
  refine mm_iadd hx hb dX8_entry_9 ?_
  refine lv_iload_n hx hb dX8_entry_10 rfl (lv_at hl 2 rfl) ?_
  refine mm_iadd hx hb dX8_entry_11 ?_
  refine mm_iald (k := (2810 + 7 * k + 2 + i)) hx hb hKK (hT.2.2 0 rfl) mm_le.rf (by show _ < 4210; omega) (by decide) dX8_entry_12 ?_
  refine mm_top (y := s_ent S k i) (hR.ent hk hi) ?_
  exact mm_iret (v := s_ent S k i) hx hb hr hlk hS (Nat.le_of_ble_eq_true rfl) (Nat.le_of_ble_eq_true rfl) (⟨rfl, rfl⟩) dX8_entry_13
set_option maxRecDepth 100000 in
theorem t_element (l : Launch) {G : mm_G} {P : mm_H} {H : Heap} {x : Nat} {ad : Nat → Nat} {I : Nat → Int32} {F : Nat → Nat → Int32} {S : sp_S} {k i : Nat} (hT : TW G x ad I F H) (hR : TR (F 0) S) (hW : WF S) (hk : k < s_nv S) (hi : i < s_len S k) : Mt l yX8_element (ws_ yX8_element cX8_element 3 (some .int)) 1 27 0 0 G P [.ref x, .int (nI k), .int (nI i)] H mm_0 (mm_pu (.int (s_els S k i)) H) := by
  refine Mt.of (by decide) (Nat.le_of_ble_eq_true rfl) (fun p e s m below meth c ls hx hb hr hlk hml hown hnm hts hKK hsH hl hS => ?_)
  have hl : lv_has ls 3 [(0, .ref x), (1, .int (nI k)), (2, .int (nI i))] := hl
  have hnv := hW.nv
  have hnn := hW.nn
  have hc := hW.len hk
  refine lv_aload_n hx hb dX8_element_0 rfl (lv_at hl 0 rfl) ?_
  refine tw_geta 0 hx hb hts hown hKK hT rfl rfl (hts _ q2498) dX8_element_1 ?_
  refine lv_iload_n hx hb dX8_element_4 rfl (lv_at hl 1 rfl) ?_
  refine mm_rpu (va_runS (As := [.int (nI k)]) (rest := [.ref (ad 0)]) ⟨hx, hb, hml, hown, hts⟩ (t_e l ) (va_cwS 1 hts (lw_S q2491 q2492 q164 q2493) rfl rfl rfl (by decide +kernel) ⟨Nat.le_of_ble_eq_true rfl, Nat.le_of_ble_eq_true rfl⟩) (mm_pS hKK) rfl rfl hl.1 rfl (lv_room (Nat.le_of_ble_eq_true rfl)) dX8_element_5 ⟨Nat.le_of_ble_eq_true rfl, Nat.le_of_ble_eq_true rfl⟩) hS (mm_s0 hS) (fun L_5 hS => ?_)
  refine lv_iload_n hx hb dX8_element_8 rfl (lv_at hl 2 rfl) ?_
  refine mm_iadd hx hb dX8_element_9 ?_
  refine mm_iald (k := (250 + 64 * k + i)) hx hb hKK (hT.2.2 0 rfl) mm_le.rf (by show _ < 4210; omega) (by decide) dX8_element_10 ?_
  refine mm_top (y := s_els S k i) (hR.els hk hi) ?_
  exact mm_iret (v := s_els S k i) hx hb hr hlk hS (Nat.le_of_ble_eq_true rfl) (Nat.le_of_ble_eq_true rfl) (⟨rfl, rfl⟩) dX8_element_11
set_option maxRecDepth 100000 in
theorem t_isVersion (l : Launch) {G : mm_G} {P : mm_H} {H : Heap} {x : Nat} {ad : Nat → Nat} {I : Nat → Int32} {F : Nat → Nat → Int32} {S : sp_S} {a : Int32} (hT : TW G x ad I F H) (hR : TR (F 0) S) (hW : WF S) : Mt l yX8_isVersion (ws_ yX8_isVersion cX8_isVersion 2 (some .boolean)) 1 25 0 0 G P [.ref x, .int a] H mm_0 (mm_pu (.int (mm_b (inR a (s_nv S)))) H) := by
  refine Mt.of (by decide) (Nat.le_of_ble_eq_true rfl) (fun p e s m below meth c ls hx hb hr hlk hml hown hnm hts hKK hsH hl hS => ?_)
  have hl : lv_has ls 2 [(0, .ref x), (1, .int a)] := hl
  have hnv := hW.nv
  have hnn := hW.nn
  refine lv_iload_n hx hb dX8_isVersion_0 rfl (lv_at hl 1 rfl) ?_
  refine lv_i2l (v := a.toInt64) hx hb dX8_isVersion_1 rfl ?_
  refine lv_lconst (v := 0) hx hb dX8_isVersion_2 (by decide) ?_
  refine lv_aload_n hx hb dX8_isVersion_3 rfl (lv_at hl 0 rfl) ?_
  refine tw_geta 0 hx hb hts hown hKK hT rfl rfl (hts _ q2498) dX8_isVersion_4 ?_
  refine lv_iconst (v := nI 0) hx hb dX8_isVersion_7 (by decide) ?_
  refine mm_iald (k := 0) hx hb hKK (hT.2.2 0 rfl) mm_le.rf (by show _ < 4210; omega) (by decide) dX8_isVersion_8 ?_
  refine mm_top (y := nI (s_nv S)) (hR.nv) ?_
  refine lv_iconst (v := nI 1) hx hb dX8_isVersion_9 (by decide) ?_
  refine lv_isub hx hb dX8_isVersion_10 ?_
  refine lv_i2l (v := ((nI (s_nv S)) - (nI 1)).toInt64) hx hb dX8_isVersion_11 rfl ?_
  refine mm_rpu (va_runS (As := [.long a.toInt64, .long 0, .long (((nI (s_nv S)) - (nI 1)).toInt64)]) (rest := []) ⟨hx, hb, hml, hown, hts⟩ (t_isWithin l ) (va_cwS 3 hts (lw_S q2599 q2600 q164 q2601) rfl rfl rfl (by decide +kernel) ⟨Nat.le_of_ble_eq_true rfl, Nat.le_of_ble_eq_true rfl⟩) (mm_pS hKK) rfl rfl hl.1 rfl (lv_room (Nat.le_of_ble_eq_true rfl)) dX8_isVersion_12 ⟨Nat.le_of_ble_eq_true rfl, Nat.le_of_ble_eq_true rfl⟩) hS (mm_s0 hS) (fun L_12 hS => ?_)
  refine mm_top (y := mm_b (inR a (s_nv S))) (congrArg mm_b (w_inR a (n := s_nv S) (by omega))) ?_
  exact mm_zret (v := mm_b (inR a (s_nv S))) hx hb hr hlk hS (Nat.le_of_ble_eq_true rfl) (Nat.le_of_ble_eq_true rfl) (mm_nb _) (⟨rfl, rfl⟩) dX8_isVersion_15
set_option maxRecDepth 100000 in
theorem t_isStored (l : Launch) {G : mm_G} {P : mm_H} {H : Heap} {x : Nat} {ad : Nat → Nat} {I : Nat → Int32} {F : Nat → Nat → Int32} {S : sp_S} {a : Int32} (hT : TW G x ad I F H) (hR : TR (F 0) S) (hW : WF S) : Mt l yX8_isStored (ws_ yX8_isStored cX8_isStored 2 (some .boolean)) 1 25 0 0 G P [.ref x, .int a] H mm_0 (mm_pu (.int (mm_b (isSt S a))) H) := by
  refine Mt.of (by decide) (Nat.le_of_ble_eq_true rfl) (fun p e s m below meth c ls hx hb hr hlk hml hown hnm hts hKK hsH hl hS => ?_)
  have hl : lv_has ls 2 [(0, .ref x), (1, .int a)] := hl
  have hnv := hW.nv
  have hnn := hW.nn
  refine lv_iload_n hx hb dX8_isStored_0 rfl (lv_at hl 1 rfl) ?_
  refine lv_i2l (v := a.toInt64) hx hb dX8_isStored_1 rfl ?_
  refine lv_lconst (v := 0) hx hb dX8_isStored_2 (by decide) ?_
  refine lv_aload_n hx hb dX8_isStored_3 rfl (lv_at hl 0 rfl) ?_
  refine tw_geta 0 hx hb hts hown hKK hT rfl rfl (hts _ q2498) dX8_isStored_4 ?_
  refine lv_iconst (v := nI 1) hx hb dX8_isStored_7 (by decide) ?_
  refine mm_iald (k := 1) hx hb hKK (hT.2.2 0 rfl) mm_le.rf (by show _ < 4210; omega) (by decide) dX8_isStored_8 ?_
  refine mm_top (y := nI (s_nn S)) (hR.nn) ?_
  refine lv_iconst (v := nI 1) hx hb dX8_isStored_9 (by decide) ?_
  refine lv_isub hx hb dX8_isStored_10 ?_
  refine lv_i2l (v := ((nI (s_nn S)) - (nI 1)).toInt64) hx hb dX8_isStored_11 rfl ?_
  refine mm_rpu (va_runS (As := [.long a.toInt64, .long 0, .long (((nI (s_nn S)) - (nI 1)).toInt64)]) (rest := []) ⟨hx, hb, hml, hown, hts⟩ (t_isWithin l ) (va_cwS 3 hts (lw_S q2599 q2600 q164 q2601) rfl rfl rfl (by decide +kernel) ⟨Nat.le_of_ble_eq_true rfl, Nat.le_of_ble_eq_true rfl⟩) (mm_pS hKK) rfl rfl hl.1 rfl (lv_room (Nat.le_of_ble_eq_true rfl)) dX8_isStored_12 ⟨Nat.le_of_ble_eq_true rfl, Nat.le_of_ble_eq_true rfl⟩) hS (mm_s0 hS) (fun L_12 hS => ?_)
  refine mm_top (y := mm_b (inR a (s_nn S))) (congrArg mm_b (w_inR a (n := s_nn S) (by omega))) ?_
  refine mm_ifeqB (tgt := 38) hx hb dX8_isStored_15 (by decide) (fun c_15 => ?_) (fun c_15 => ?_)
  · refine lv_iconst (v := nI 0) hx hb dX8_isStored_38 (by decide) ?_
    exact mm_zret (v := nI 0) hx hb hr hlk hS (Nat.le_of_ble_eq_true rfl) (Nat.le_of_ble_eq_true rfl) (rfl) (⟨by exact mm_e0 (isSt_f c_15), rfl⟩) dX8_isStored_39
  · obtain ⟨j, hj, rfl, hcj⟩ := inR_t c_15
    refine lv_aload_n hx hb dX8_isStored_18 rfl (lv_at hl 0 rfl) ?_
    refine tw_geta 0 hx hb hts hown hKK hT rfl rfl (hts _ q2498) dX8_isStored_19 ?_
    refine lv_iload_n hx hb dX8_isStored_22 rfl (lv_at hl 1 rfl) ?_
    refine mm_rpu (va_runS (As := [.int (nI j)]) (rest := [.ref (ad 0)]) ⟨hx, hb, hml, hown, hts⟩ (t_n l ) (va_cwS 1 hts (lw_S q2464 q2465 q164 q2466) rfl rfl rfl (by decide +kernel) ⟨Nat.le_of_ble_eq_true rfl, Nat.le_of_ble_eq_true rfl⟩) (mm_pS hKK) rfl rfl hl.1 rfl (lv_room (Nat.le_of_ble_eq_true rfl)) dX8_isStored_23 ⟨Nat.le_of_ble_eq_true rfl, Nat.le_of_ble_eq_true rfl⟩) hS (mm_s0 hS) (fun L_23 hS => ?_)
    refine lv_bipush (v := nI 6) hx hb dX8_isStored_26 (by decide) ?_
    refine mm_iadd hx hb dX8_isStored_28 ?_
    refine mm_iald (k := (2810 + 7 * j + 6)) hx hb hKK (hT.2.2 0 rfl) mm_le.rf (by show _ < 4210; omega) (by decide) dX8_isStored_29 ?_
    refine mm_top (y := mm_b (s_sto S j)) (hR.sto hj) ?_
    refine lv_iconst (v := nI 1) hx hb dX8_isStored_30 (by decide) ?_
    refine mm_icmp_neB1 (tgt := 38) hx hb dX8_isStored_31 (by decide) (fun c_31 => ?_) (fun c_31 => ?_)
    · refine lv_iconst (v := nI 0) hx hb dX8_isStored_38 (by decide) ?_
      exact mm_zret (v := nI 0) hx hb hr hlk hS (Nat.le_of_ble_eq_true rfl) (Nat.le_of_ble_eq_true rfl) (rfl) (⟨by rw [isSt_n hj hnn]; first | exact mm_e1 c_31 | exact mm_e0 c_31, rfl⟩) dX8_isStored_39
    · refine lv_iconst (v := nI 1) hx hb dX8_isStored_34 (by decide) ?_
      refine lv_goto (tgt := 39) hx hb dX8_isStored_35 (by decide) ?_
      exact mm_zret (v := nI 1) hx hb hr hlk hS (Nat.le_of_ble_eq_true rfl) (Nat.le_of_ble_eq_true rfl) (rfl) (⟨by rw [isSt_n hj hnn]; first | exact mm_e1 c_31 | exact mm_e0 c_31, rfl⟩) dX8_isStored_39
