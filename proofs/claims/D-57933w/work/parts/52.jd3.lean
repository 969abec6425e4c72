/-! lists: growth, adding (printed by tools/jd3.py) -/
set_option maxRecDepth 100000 in
theorem j_nl (l : Launch) {G : mm_G} {P : mm_H} {H : Heap} {a b v : Nat} (ha9 : a ≤ 1000) (hb9 : b ≤ 1000) (hv9 : v ≤ 1000) (h19 : 1 ≤ b) : Mt l yJ5_newLength (ws_ yJ5_newLength cJ5_newLength 4 (some .int)) 1 40 0 0 G P [.int (nI a), .int (nI b), .int (nI v)] H mm_0 (mm_pu (.int (nI (a + max b v))) H) := by
  refine Mt.of (by decide) (Nat.le_of_ble_eq_true rfl) (fun p e s m below meth c ls hx hb hr hlk hml hown hnm hts hKK hsH hl hS => ?_)
  have hl : lv_has ls 4 [(0, .int (nI a)), (1, .int (nI b)), (2, .int (nI v))] := hl
  refine lv_iload_n hx hb dJ5_newLength_0 rfl (lv_at hl 0 rfl) ?_
  refine lv_iload_n hx hb dJ5_newLength_1 rfl (lv_at hl 1 rfl) ?_
  refine lv_iload_n hx hb dJ5_newLength_2 rfl (lv_at hl 2 rfl) ?_
  refine va_mmax (x := nI b) (y := nI v) (rest := [.int (nI a)]) hx hb (hml.trans hl.1.symm) hown (hts _ q271) (hts _ q272) (hts _ q143) (hts _ q273) (Nat.le_of_ble_eq_true rfl) (Nat.le_of_ble_eq_true rfl) (Nat.le_of_ble_eq_true rfl) (Nat.le_of_ble_eq_true rfl) dJ5_newLength_3 ?_
  refine mm_top (mm_maxN (by omega) (by omega)) ?_
  refine mm_iadd hx hb dJ5_newLength_6 ?_
  refine lv_istore_n (lv' := [(3, .int (nI (a + max b v))), (0, .int (nI a)), (1, .int (nI b)), (2, .int (nI v))]) hx hb dJ5_newLength_7 rfl hl (by decide) rfl (fun ls hl => ?_)
  refine lv_iconst (v := nI 0) hx hb dJ5_newLength_8 (by decide) ?_
  refine lv_iload_n hx hb dJ5_newLength_9 rfl (lv_at hl 0 rfl) ?_
  refine mm_icmp_ge (tgt := 21) (by omega) (by omega) hx hb dJ5_newLength_10 (by decide) (fun c_10 => ?_) (fun c_10 => ?_)
  · exfalso; omega
  · refine lv_iload_n hx hb dJ5_newLength_13 rfl (lv_at hl 0 rfl) ?_
    refine lv_ldc (v := 2147483639) hx hb hown (hts _ q274) dJ5_newLength_14 ?_
    refine mm_top (y := nI 2147483639) rfl ?_
    refine mm_icmp_gt (tgt := 21) (by omega) (by omega) hx hb dJ5_newLength_16 (by decide) (fun c_16 => ?_) (fun c_16 => ?_)
    · exfalso; omega
    · refine lv_iload_n hx hb dJ5_newLength_19 rfl (lv_at hl 0 rfl) ?_
      exact mm_iret (v := nI (a + max b v)) hx hb hr hlk hS (Nat.le_of_ble_eq_true rfl) (Nat.le_of_ble_eq_true rfl) (⟨rfl, rfl⟩) dJ5_newLength_20
set_option maxRecDepth 100000 in
theorem j_cp2 (l : Launch) {G : mm_G} {P : mm_H} {H : Heap} {W We : mm_H} {arr n0 k : Nat} {f : Nat → Option Nat} (hA : mm_qa G W arr 4 n0 f) (hWF : mm_le W (mm_h H)) (hel : ∀ j, j < n0 → ∀ y, f j = some y → mm_el G We y) (hWe : mm_le We (mm_h H)) (hn : n0 ≤ k) (hk : k ≤ 300) : Mt l yJ7_copyOf_2 (ws_ yJ7_copyOf_2 cJ7_copyOf_2 4 (some (.array (.object "java/lang/Object")))) 2 80 1 300 G P [.ref arr, .int (nI k), .ref (G.2.2 5)] H mm_0 (mm_r (fun b H1 => mm_qa G (mm_h H1) b 4 k (fun j => if j < n0 then f j else none) ∧ H.size ≤ b)) := by
  refine Mt.of (by decide) (Nat.le_of_ble_eq_true rfl) (fun p e s m below meth c ls hx hb hr hlk hml hown hnm hts hKK hsH hl hS => ?_)
  have hl : lv_has ls 4 [(0, .ref arr), (1, .int (nI k)), (2, .ref (G.2.2 5))] := hl
  refine lv_aload_n hx hb dJ7_copyOf_2_0 rfl (lv_at hl 2 rfl) ?_
  refine va_ldcM hx hb hown (hts _ q318) hKK.L.2.2.2.2.2 dJ7_copyOf_2_1 ?_
  refine lv_acmp_ne (tgt := 13) (rx := (some (G.2.2 5))) (ry := (some (G.2.2 5))) hx hb dJ7_copyOf_2_3 (by decide) (fun c_3 => ?_) (fun c_3 => ?_)
  · exact absurd rfl c_3
  · refine lv_iload_n hx hb dJ7_copyOf_2_6 rfl (lv_at hl 1 rfl) ?_
    have hs1 := hS.1
    refine mm_newq hx hb hown (hts _ q320) hKK hS (N := k) (by omega) (by omega) (by simp only [mm_rm]; omega) (by simp only [mm_rm]; omega) dJ7_copyOf_2_7 (fun a_7 H_7 ea_7 ha_7 hz_7 hq_7 hS => ?_)
    have hWF := hWF.push hq_7
    have hWe := hWe.push hq_7
    have hle_a_7 : H.size ≤ a_7 := by rw [ea_7]; exact hs1
    refine lv_goto (tgt := 24) hx hb dJ7_copyOf_2_10 (by decide) ?_
    refine lv_astore_n (lv' := [(3, .ref a_7), (0, .ref arr), (1, .int (nI k)), (2, .ref (G.2.2 5))]) hx hb dJ7_copyOf_2_24 rfl hl (by decide) rfl (fun ls hl => ?_)
    refine lv_aload_n hx hb dJ7_copyOf_2_25 rfl (lv_at hl 1 rfl) ?_
    refine lv_iconst (v := nI 0) hx hb dJ7_copyOf_2_26 (by decide) ?_
    refine lv_aload_n hx hb dJ7_copyOf_2_27 rfl (lv_at hl 0 rfl) ?_
    refine lv_iconst (v := nI 0) hx hb dJ7_copyOf_2_28 (by decide) ?_
    refine lv_aload_n hx hb dJ7_copyOf_2_29 rfl (lv_at hl 1 rfl) ?_
    refine mm_alen hx hb hKK 4 rfl hA hWF dJ7_copyOf_2_30 ?_
    refine lv_iload_n hx hb dJ7_copyOf_2_31 rfl (lv_at hl 2 rfl) ?_
    refine va_mmin (x := nI n0) (y := nI k) (rest := [.int (nI 0), .ref a_7, .int (nI 0), .ref arr]) hx hb (hml.trans hl.1.symm) hown (hts _ q321) (hts _ q322) (hts _ q143) (hts _ q323) (Nat.le_of_ble_eq_true rfl) (Nat.le_of_ble_eq_true rfl) (Nat.le_of_ble_eq_true rfl) (by simp only [mm_rm]; omega) dJ7_copyOf_2_32 ?_
    refine mm_top (mm_minN (by omega) (by omega)) ?_
    refine mm_top (y := nI n0) (congrArg nI (Nat.min_eq_left hn)) ?_
    refine mm_copy hx hb (hml.trans hl.1.symm) hown (hts _ q324) (hts _ q326) (hts _ q325) (hts _ q145) hKK 4 rfl (mk := va_rf) (sp := 0) (dp := 0) (n := n0) hA hWF ha_7 hS (Or.inr hle_a_7) (by omega) (by omega) (by omega) (by omega) (fun i hi => ⟨mm_fi _ _, by cases hy : f (0 + i) with | none => exact .inl rfl | some y => exact .inr (.inr ⟨y, rfl, rfl, (hel _ (by omega) y hy).any hWe hKK⟩)⟩) (Nat.le_of_ble_eq_true rfl) (Nat.le_of_ble_eq_true rfl) dJ7_copyOf_2_35 (fun H_35 L_35 ha_7 hz_35 hq_35 hS => ?_)
    refine lv_aload_n hx hb dJ7_copyOf_2_38 rfl (lv_at hl 0 rfl) ?_
    exact mm_aret (v := .ref a_7) hx hb hr rfl hlk hS (Nat.le_of_ble_eq_true rfl) (by omega) (Or.inr ⟨_, rfl⟩) (⟨a_7, rfl, by rw [← cpy_0]; exact ha_7, hle_a_7⟩) dJ7_copyOf_2_39
set_option maxRecDepth 100000 in
theorem j_cp (l : Launch) {G : mm_G} {P : mm_H} {H : Heap} {W We : mm_H} {arr n0 k : Nat} {f : Nat → Option Nat} (hA : mm_qa G W arr 4 n0 f) (hWF : mm_le W (mm_h H)) (hel : ∀ j, j < n0 → ∀ y, f j = some y → mm_el G We y) (hWe : mm_le We (mm_h H)) (hn : n0 ≤ k) (hk : k ≤ 300) : Mt l yJ7_copyOf (ws_ yJ7_copyOf cJ7_copyOf 2 (some (.array (.object "java/lang/Object")))) 3 110 1 300 G P [.ref arr, .int (nI k)] H mm_0 (mm_r (fun b H1 => mm_qa G (mm_h H1) b 4 k (fun j => if j < n0 then f j else none) ∧ H.size ≤ b)) := by
  refine Mt.of (by decide) (Nat.le_of_ble_eq_true rfl) (fun p e s m below meth c ls hx hb hr hlk hml hown hnm hts hKK hsH hl hS => ?_)
  have hl : lv_has ls 2 [(0, .ref arr), (1, .int (nI k))] := hl
  refine lv_aload_n hx hb dJ7_copyOf_0 rfl (lv_at hl 0 rfl) ?_
  refine lv_iload_n hx hb dJ7_copyOf_1 rfl (lv_at hl 1 rfl) ?_
  refine lv_aload_n hx hb dJ7_copyOf_2 rfl (lv_at hl 0 rfl) ?_
  refine va_getC hx hb (hml.trans hl.1.symm) hown (hts _ q281) (va_Nw.use rfl (hKK.W.use q3167 rfl)) (hts _ q3166) (hts _ q282) (hts _ q314) hKK.L.2.2.2.2.2 ⟨_, hWF.at hA, rfl, mm_arO hKK⟩ (Nat.le_of_ble_eq_true rfl) (Nat.le_of_ble_eq_true rfl) dJ7_copyOf_3 ?_
  refine mm_rr (va_runS (As := [.ref arr, .int (nI k), .ref (G.2.2 5)]) (rest := []) ⟨hx, hb, hml, hown, hts⟩ (j_cp2 l hA hWF hel hWe hn hk) (va_cwS 3 hts (lw_S q315 q316 q144 q317) rfl rfl rfl (by decide +kernel) ⟨Nat.le_of_ble_eq_true rfl, Nat.le_of_ble_eq_true rfl⟩) (mm_pS hKK) rfl rfl hl.1 rfl (lv_room (Nat.le_of_ble_eq_true rfl)) dJ7_copyOf_6 ⟨Nat.le_of_ble_eq_true rfl, Nat.le_of_ble_eq_true rfl⟩) hS (mm_s0 hS) (fun b_6 H_6 L_6 hB_6 hz_6 hq_6 hS => ?_)
  exact mm_aret (v := .ref b_6) hx hb hr rfl hlk hS (Nat.le_of_ble_eq_true rfl) (Nat.le_of_ble_eq_true rfl) (Or.inr ⟨_, rfl⟩) (⟨b_6, rfl, hB_6⟩) dJ7_copyOf_9
set_option maxRecDepth 100000 in
theorem a_grow2 (l : Launch) {G : mm_G} {P : mm_H} {H : Heap} {We : mm_H} {a arr cap n : Nat} {mc : Int32} {es : Nat → Nat} (hF : mm_le P (mm_h H)) (hL : AL G (mm_h H) a arr cap mc n es) (hfull : n = cap) (hn9 : n ≤ 190) (hel : ∀ j, j < n → mm_el G We (es j)) (hWe : mm_le We (mm_h H)) : Mt l yJ2_grow_2 (ws_ yJ2_grow_2 cJ2_grow_2 4 (some (.array (.object "java/lang/Object")))) 5 200 1 300 G P [.ref a, .int (nI (n + 1))] H (fun q => q = a) (mm_r (fun b H1 => ∃ cap2, mm_ob G (mm_h H1) a 15 [.int mc, .ref b, .int (nI n)] ∧ mm_qa G (mm_h H1) b 4 cap2 (alF n es) ∧ n < cap2 ∧ cap2 ≤ 300 ∧ H.size ≤ b)) := by
  refine Mt.of (by decide) (Nat.le_of_ble_eq_true rfl) (fun p e s m below meth c ls hx hb hr hlk hml hown hnm hts hKK hsH hl hS => ?_)
  have hl : lv_has ls 4 [(0, .ref a), (1, .int (nI (n + 1)))] := hl
  have hO := hL.1
  have hnc := hL.2.1
  have hc16 := hL.2.2.1
  have hnea := hL.2.2.2.1
  have halt := hO.lt
  rcases Nat.eq_zero_or_pos cap with hz | hz
  · have harr := hL.z hz
    have hT0 : mm_T (.object "java/lang/Object") arr 0 (fun _ => .null) s P := by rw [harr]; exact hKK.L.2.1
    refine lv_aload_n hx hb dJ2_grow_2_0 rfl (lv_at hl 0 rfl) ?_
    refine mm_get (C := RJ2) (T := TJ2) (N := 3) (ci := 15) (v := .ref arr) hx hb hts in_J2 hown hKK (mm_ob.rb hO) mm_le.rf rfl 1 (by decide) (hts _ q209) (fun _ h9 => h9) rfl dJ2_grow_2_1 ?_
    refine mm_Tlen hx hb hT0 hF dJ2_grow_2_4 ?_
    refine lv_istore_n (lv' := [(2, .int (nI 0)), (0, .ref a), (1, .int (nI (n + 1)))]) hx hb dJ2_grow_2_5 rfl hl (by decide) rfl (fun ls hl => ?_)
    refine lv_iload_n hx hb dJ2_grow_2_6 rfl (lv_at hl 0 rfl) ?_
    refine mm_if_gt (tgt := 20) (by omega) hx hb dJ2_grow_2_7 (by decide) (fun c_7 => ?_) (fun c_7 => ?_)
    · exact absurd c_7 (by decide)
    · refine lv_aload_n hx hb dJ2_grow_2_10 rfl (lv_at hl 1 rfl) ?_
      refine mm_get (C := RJ2) (T := TJ2) (N := 3) (ci := 15) (v := .ref arr) hx hb hts in_J2 hown hKK (mm_ob.rb hO) mm_le.rf rfl 1 (by decide) (hts _ q209) (fun _ h9 => h9) rfl dJ2_grow_2_11 ?_
      refine mm_gets (v := .ref (G.2.2 0)) hx hb hKK.L.1 hF hown (hts _ q207) (fun _ h9 => h9) dJ2_grow_2_14 ?_
      refine lv_acmp_eq (tgt := 45) (rx := (some arr)) (ry := (some (G.2.2 0))) hx hb dJ2_grow_2_17 (by decide) (fun c_17 => ?_) (fun c_17 => ?_)
      · refine lv_aload_n hx hb dJ2_grow_2_45 rfl (lv_at hl 1 rfl) ?_
        refine lv_bipush (v := nI 10) hx hb dJ2_grow_2_46 (by decide) ?_
        refine lv_iload_n hx hb dJ2_grow_2_48 rfl (lv_at hl 2 rfl) ?_
        refine va_mmax (x := nI 10) (y := nI (n + 1)) (rest := [.ref a]) hx hb (hml.trans hl.1.symm) hown (hts _ q327) (hts _ q272) (hts _ q143) (hts _ q273) (Nat.le_of_ble_eq_true rfl) (Nat.le_of_ble_eq_true rfl) (Nat.le_of_ble_eq_true rfl) (Nat.le_of_ble_eq_true rfl) dJ2_grow_2_49 ?_
        refine mm_top (mm_maxN (by omega) (by omega)) ?_
        refine mm_top (y := nI 10) (congrArg nI (Nat.max_eq_left (by omega))) ?_
        have hlt_a := hO.lt
        have hs1 := hS.1
        refine mm_newq hx hb hown (hts _ q328) hKK hS (N := 10) (by omega) (by omega) (by simp only [mm_rm]; omega) (by simp only [mm_rm]; omega) dJ2_grow_2_52 (fun a_52 H_52 ea_52 ha_52 hz_52 hq_52 hS => ?_)
        have hO := hO.kept (hq_52 _ hO.lt)
        have hle_a_52 : H.size ≤ a_52 := by rw [ea_52]; exact hs1
        have hgt_a_a_52 : a < a_52 := by rw [ea_52]; exact hlt_a
        refine lv_dup_x1 hx hb dJ2_grow_2_55 rfl rfl ?_
        refine mm_put (C := RJ2) (T := TJ2) (N := 3) (ci := 15) (v := .ref a_52) (ty := (.array (.object "java/lang/Object"))) hx hb hts in_J2 tyJ2 tyJ2_ok nmJ2 hown hKK hO hS (Or.inl rfl) rfl 1 (by decide) (hts _ q209) (fun _ h9 => h9) rfl  (by decide +kernel) (rfl) (rfl) (Nat.le_of_ble_eq_true rfl) dJ2_grow_2_56 (fun H_56 L_56 hO hz_56 hq_56 hS => ?_)
        have hO : mm_ob G (mm_h H_56) a 15 [.int mc, .ref a_52, .int (nI n)] := hO
        have ha_52 := ha_52.kept (hq_56 _ ((Nat.ne_of_lt hgt_a_a_52).symm))
        exact mm_aret (v := .ref a_52) hx hb hr rfl hlk hS (Nat.le_of_ble_eq_true rfl) (Nat.le_of_ble_eq_true rfl) (Or.inr ⟨_, rfl⟩) (⟨a_52, rfl, 10, hO, by rw [show n = 0 by omega, alF_0]; exact ha_52, by omega, by omega, hle_a_52⟩) dJ2_grow_2_59
      · exact absurd (congrArg some harr) c_17
  · have hA := hL.q hz
    refine lv_aload_n hx hb dJ2_grow_2_0 rfl (lv_at hl 0 rfl) ?_
    refine mm_get (C := RJ2) (T := TJ2) (N := 3) (ci := 15) (v := .ref arr) hx hb hts in_J2 hown hKK (mm_ob.rb hO) mm_le.rf rfl 1 (by decide) (hts _ q209) (fun _ h9 => h9) rfl dJ2_grow_2_1 ?_
    refine mm_alen hx hb hKK 4 rfl hA mm_le.rf dJ2_grow_2_4 ?_
    refine lv_istore_n (lv' := [(2, .int (nI cap)), (0, .ref a), (1, .int (nI (n + 1)))]) hx hb dJ2_grow_2_5 rfl hl (by decide) rfl (fun ls hl => ?_)
    refine lv_iload_n hx hb dJ2_grow_2_6 rfl (lv_at hl 0 rfl) ?_
    refine mm_if_gt (tgt := 20) (by omega) hx hb dJ2_grow_2_7 (by decide) (fun c_7 => ?_) (fun c_7 => ?_)
    · refine lv_iload_n hx hb dJ2_grow_2_20 rfl (lv_at hl 0 rfl) ?_
      refine lv_iload_n hx hb dJ2_grow_2_21 rfl (lv_at hl 2 rfl) ?_
      refine lv_iload_n hx hb dJ2_grow_2_22 rfl (lv_at hl 0 rfl) ?_
      refine mm_isub (by omega) hx hb dJ2_grow_2_23 ?_
      refine lv_iload_n hx hb dJ2_grow_2_24 rfl (lv_at hl 0 rfl) ?_
      refine lv_iconst (v := nI 1) hx hb dJ2_grow_2_25 (by decide) ?_
      refine lv_ishr hx hb dJ2_grow_2_26 ?_
      refine mm_top (y := nI (cap / 2)) (mm_shr1 (by omega)) ?_
      refine mm_rpu (va_runS (As := [.int (nI cap), .int (nI ((n + 1) - cap)), .int (nI (cap / 2))]) (rest := []) ⟨hx, hb, hml, hown, hts⟩ (j_nl l (by omega) (by omega) (by omega) (by omega)) (va_cwS 3 hts (lw_S q268 q269 q142 q270) rfl rfl rfl (by decide +kernel) ⟨Nat.le_of_ble_eq_true rfl, Nat.le_of_ble_eq_true rfl⟩) (mm_pS hKK) rfl rfl hl.1 rfl (lv_room (Nat.le_of_ble_eq_true rfl)) dJ2_grow_2_27 ⟨Nat.le_of_ble_eq_true rfl, Nat.le_of_ble_eq_true rfl⟩) hS (mm_s0 hS) (fun L_27 hS => ?_)
      refine lv_istore_n (lv' := [(3, .int (nI (cap + max ((n + 1) - cap) (cap / 2)))), (2, .int (nI cap)), (0, .ref a), (1, .int (nI (n + 1)))]) hx hb dJ2_grow_2_30 rfl hl (by decide) rfl (fun ls hl => ?_)
      refine lv_aload_n hx hb dJ2_grow_2_31 rfl (lv_at hl 2 rfl) ?_
      refine lv_aload_n hx hb dJ2_grow_2_32 rfl (lv_at hl 2 rfl) ?_
      refine mm_get (C := RJ2) (T := TJ2) (N := 3) (ci := 15) (v := .ref arr) hx hb hts in_J2 hown hKK (mm_ob.rb hO) mm_le.rf rfl 1 (by decide) (hts _ q209) (fun _ h9 => h9) rfl dJ2_grow_2_33 ?_
      refine lv_iload_n hx hb dJ2_grow_2_36 rfl (lv_at hl 0 rfl) ?_
      have hs1 := hS.1
      refine mm_rr (va_runS (As := [.ref arr, .int (nI (cap + max ((n + 1) - cap) (cap / 2)))]) (rest := [.ref a]) ⟨hx, hb, hml, hown, hts⟩ (j_cp l (k := cap + max ((n + 1) - cap) (cap / 2)) hA mm_le.rf (fun j hj y hy => by rw [alF_lt (by omega)] at hy; cases hy; exact hel j (by omega)) hWe (by omega) (by omega)) (va_cwS 2 hts (lw_S q278 q279 q144 q280) rfl rfl rfl (by decide +kernel) ⟨Nat.le_of_ble_eq_true rfl, Nat.le_of_ble_eq_true rfl⟩) (mm_pS hKK) rfl rfl hl.1 rfl (lv_room (Nat.le_of_ble_eq_true rfl)) dJ2_grow_2_37 ⟨Nat.le_of_ble_eq_true rfl, Nat.le_of_ble_eq_true rfl⟩) hS (mm_s0 hS) (fun b_37 H_37 L_37 hB_37 hz_37 hq_37 hS => ?_)
      obtain ⟨hB1, hB2⟩ := hB_37
      have hO := hO.kept (hq_37 _ hO.lt (fun z => z.elim))
      rw [alF_i (by omega)] at hB1
      have hne_b : a ≠ b_37 := Nat.ne_of_lt (Nat.lt_of_lt_of_le halt hB2)
      refine lv_dup_x1 hx hb dJ2_grow_2_40 rfl rfl ?_
      refine mm_put (C := RJ2) (T := TJ2) (N := 3) (ci := 15) (v := .ref b_37) (ty := (.array (.object "java/lang/Object"))) hx hb hts in_J2 tyJ2 tyJ2_ok nmJ2 hown hKK hO hS (Or.inl rfl) rfl 1 (by decide) (hts _ q209) (fun _ h9 => h9) rfl  (by decide +kernel) (rfl) (rfl) (Nat.le_of_ble_eq_true rfl) dJ2_grow_2_41 (fun H_41 L_41 hO hz_41 hq_41 hS => ?_)
      have hO : mm_ob G (mm_h H_41) a 15 [.int mc, .ref b_37, .int (nI n)] := hO
      have hB1 := hB1.kept (hq_41 _ ((Ne.symm hne_b)))
      exact mm_aret (v := .ref b_37) hx hb hr rfl hlk hS (Nat.le_of_ble_eq_true rfl) (Nat.le_of_ble_eq_true rfl) (Or.inr ⟨_, rfl⟩) (⟨b_37, rfl, _, hO, hB1, by omega, by omega, Nat.le_trans hs1 hB2⟩) dJ2_grow_2_44
    · exfalso; omega
set_option maxRecDepth 100000 in
theorem a_grow (l : Launch) {G : mm_G} {P : mm_H} {H : Heap} {We : mm_H} {a arr cap n : Nat} {mc : Int32} {es : Nat → Nat} (hF : mm_le P (mm_h H)) (hL : AL G (mm_h H) a arr cap mc n es) (hfull : n = cap) (hn9 : n ≤ 190) (hel : ∀ j, j < n → mm_el G We (es j)) (hWe : mm_le We (mm_h H)) : Mt l yJ2_grow (ws_ yJ2_grow cJ2_grow 1 (some (.array (.object "java/lang/Object")))) 6 230 1 300 G P [.ref a] H (fun q => q = a) (mm_r (fun b H1 => ∃ cap2, mm_ob G (mm_h H1) a 15 [.int mc, .ref b, .int (nI n)] ∧ mm_qa G (mm_h H1) b 4 cap2 (alF n es) ∧ n < cap2 ∧ cap2 ≤ 300 ∧ H.size ≤ b)) := by
  refine Mt.of (by decide) (Nat.le_of_ble_eq_true rfl) (fun p e s m below meth c ls hx hb hr hlk hml hown hnm hts hKK hsH hl hS => ?_)
  have hl : lv_has ls 1 [(0, .ref a)] := hl
  have hO := hL.1
  have hnc := hL.2.1
  have hc16 := hL.2.2.1
  have hnea := hL.2.2.2.1
  refine lv_aload_n hx hb dJ2_grow_0 rfl (lv_at hl 0 rfl) ?_
  refine lv_aload_n hx hb dJ2_grow_1 rfl (lv_at hl 0 rfl) ?_
  refine mm_get (C := RJ2) (T := TJ2) (N := 3) (ci := 15) (v := .int (nI n)) hx hb hts in_J2 hown hKK (mm_ob.rb hO) mm_le.rf rfl 2 (by decide) (hts _ q212) (fun _ h9 => h9) rfl dJ2_grow_2 ?_
  refine lv_iconst (v := nI 1) hx hb dJ2_grow_5 (by decide) ?_
  refine mm_iadd hx hb dJ2_grow_6 ?_
  refine mm_rr (va_runV (As := [.int (nI (n + 1))]) (rest := []) ⟨hx, hb, hml, hown, hts⟩ (a_grow2 l hF hL hfull hn9 hel hWe) (cwV 1 hts (lw_V q264 q266 qs2 q138 q267) rfl rfl rfl (by decide +kernel) ⟨Nat.le_of_ble_eq_true rfl, Nat.le_of_ble_eq_true rfl⟩) (mm_pV hKK (mm_rc hKK hO mm_le.rf rfl)) rfl rfl hl.1 rfl (lv_room (Nat.le_of_ble_eq_true rfl)) dJ2_grow_7 ⟨Nat.le_of_ble_eq_true rfl, Nat.le_of_ble_eq_true rfl⟩) hS (mm_sS hS) (fun b_7 H_7 L_7 hB_7 hz_7 hq_7 hS => ?_)
  exact mm_aret (v := .ref b_7) hx hb hr rfl hlk hS (Nat.le_of_ble_eq_true rfl) (Nat.le_of_ble_eq_true rfl) (Or.inr ⟨_, rfl⟩) (⟨b_7, rfl, hB_7⟩) dJ2_grow_10
set_option maxRecDepth 100000 in
theorem a_add2 (l : Launch) {G : mm_G} {P : mm_H} {H : Heap} {We : mm_H} {v : Nat} {a arr cap n : Nat} {mc : Int32} {es : Nat → Nat} (hF : mm_le P (mm_h H)) (hL : AL G (mm_h H) a arr cap mc n es) (hn9 : n ≤ 190) (hel : ∀ j, j < n → mm_el G We (es j)) (hv : mm_el G We v) (hWe : mm_le We (mm_h H)) (hWa : We a = none) (hWr : 0 < cap → We arr = none) : Mt l yJ2_add_2 (ws_ yJ2_add_2 cJ2_add_2 4 none) 7 280 1 300 G P [.ref a, .ref v, .ref arr, .int (nI n)] H (fun q => q = a ∨ (0 < cap ∧ q = arr)) (mm_v (fun H1 => ∃ arr2 cap2, AL G (mm_h H1) a arr2 cap2 (mc) (n + 1) (fun j => if j = n then v else es j) ∧ (arr2 = arr ∨ H.size ≤ arr2))) := by
  refine Mt.of (by decide) (Nat.le_of_ble_eq_true rfl) (fun p e s m below meth c ls hx hb hr hlk hml hown hnm hts hKK hsH hl hS => ?_)
  have hl : lv_has ls 4 [(0, .ref a), (1, .ref v), (2, .ref arr), (3, .int (nI n))] := hl
  have hO := hL.1
  have hnc := hL.2.1
  have hc16 := hL.2.2.1
  have hnea := hL.2.2.2.1
  rcases Nat.eq_zero_or_pos cap with hz | hz
  · have hz0 : cap = 0 := hz
    have harr := hL.z hz
    have hT0 : mm_T (.object "java/lang/Object") arr 0 (fun _ => .null) s P := by rw [harr]; exact hKK.L.2.1
    refine lv_iload_n hx hb dJ2_add_2_0 rfl (lv_at hl 3 rfl) ?_
    refine lv_aload_n hx hb dJ2_add_2_1 rfl (lv_at hl 2 rfl) ?_
    refine mm_Tlen hx hb hT0 hF dJ2_add_2_2 ?_
    refine mm_icmp_ne (tgt := 11) (by omega) (by omega) hx hb dJ2_add_2_3 (by decide) (fun c_3 => ?_) (fun c_3 => ?_)
    · have hcp : 0 < cap := by omega
      have hA := hL.q hcp
      refine lv_aload_n hx hb dJ2_add_2_11 rfl (lv_at hl 2 rfl) ?_
      refine lv_iload_n hx hb dJ2_add_2_12 rfl (lv_at hl 3 rfl) ?_
      refine lv_aload_n hx hb dJ2_add_2_13 rfl (lv_at hl 1 rfl) ?_
      refine mm_aast (k := n) hx hb hKK hA hS (Or.inl (Or.inr ⟨hcp, rfl⟩)) (by omega) (by omega) hv hWe dJ2_add_2_14 (fun H_14 L_14 hA hz_14 hq_14 hS => ?_)
      have hO := hO.kept (hq_14 _ ((Ne.symm hnea).symm))
      refine lv_aload_n hx hb dJ2_add_2_15 rfl (lv_at hl 0 rfl) ?_
      refine lv_iload_n hx hb dJ2_add_2_16 rfl (lv_at hl 3 rfl) ?_
      refine lv_iconst (v := nI 1) hx hb dJ2_add_2_17 (by decide) ?_
      refine mm_iadd hx hb dJ2_add_2_18 ?_
      refine mm_put (C := RJ2) (T := TJ2) (N := 3) (ci := 15) (v := .int (nI (n + 1))) (ty := .int) hx hb hts in_J2 tyJ2 tyJ2_ok nmJ2 hown hKK hO hS (Or.inl (Or.inl rfl)) rfl 2 (by decide) (hts _ q212) (fun _ h9 => h9) rfl  (by decide +kernel) (rfl) (rfl) (Nat.le_of_ble_eq_true rfl) dJ2_add_2_19 (fun H_19 L_19 hO hz_19 hq_19 hS => ?_)
      have hO : mm_ob G (mm_h H_19) a 15 [.int mc, .ref arr, .int (nI (n + 1))] := hO
      have hA := hA.kept (hq_19 _ ((Ne.symm hnea)))
      exact mm_vret hx hb hr hlk hS (Nat.le_of_ble_eq_true rfl) (Nat.le_of_ble_eq_true rfl) (⟨rfl, arr, cap, ⟨hO, by omega, by omega, hnea, .inr ⟨hcp, by rw [← alF_add]; exact hA⟩⟩, .inl rfl⟩) dJ2_add_2_22
    · have c_3 : n = cap := by omega
      refine lv_aload_n hx hb dJ2_add_2_6 rfl (lv_at hl 0 rfl) ?_
      have halt := hO.lt
      refine mm_rr (va_runV (As := []) (rest := []) ⟨hx, hb, hml, hown, hts⟩ (a_grow l hF hL c_3 hn9 hel hWe) (cwV 0 hts (lw_V q260 q262 qs1 q138 q263) rfl rfl rfl (by decide +kernel) ⟨Nat.le_of_ble_eq_true rfl, Nat.le_of_ble_eq_true rfl⟩) (mm_pV hKK (mm_rc hKK hO mm_le.rf rfl)) rfl rfl hl.1 rfl (lv_room (Nat.le_of_ble_eq_true rfl)) dJ2_add_2_7 ⟨Nat.le_of_ble_eq_true rfl, Nat.le_of_ble_eq_true rfl⟩) hS (mm_sM hS (fun q z => Or.inl (Or.inl z))) (fun b_7 H_7 L_7 hB_7 hz_7 hq_7 hS => ?_)
      obtain ⟨cap2, hO, hA, hc2, hc3, hb2⟩ := hB_7
      have hWe := hWe.keep hq_7 (fun q z => by rw [z]; exact hWa)
      have hne_b : a ≠ b_7 := Nat.ne_of_lt (Nat.lt_of_lt_of_le halt hb2)
      refine lv_astore_n (lv' := [(2, .ref b_7), (0, .ref a), (1, .ref v), (3, .int (nI n))]) hx hb dJ2_add_2_10 rfl hl (by decide) rfl (fun ls hl => ?_)
      refine lv_aload_n hx hb dJ2_add_2_11 rfl (lv_at hl 0 rfl) ?_
      refine lv_iload_n hx hb dJ2_add_2_12 rfl (lv_at hl 3 rfl) ?_
      refine lv_aload_n hx hb dJ2_add_2_13 rfl (lv_at hl 2 rfl) ?_
      refine mm_aast (k := n) hx hb hKK hA hS (Or.inr hb2) (by omega) (by omega) hv hWe dJ2_add_2_14 (fun H_14 L_14 hA hz_14 hq_14 hS => ?_)
      have hO := hO.kept (hq_14 _ ((Ne.symm hne_b).symm))
      refine lv_aload_n hx hb dJ2_add_2_15 rfl (lv_at hl 1 rfl) ?_
      refine lv_iload_n hx hb dJ2_add_2_16 rfl (lv_at hl 3 rfl) ?_
      refine lv_iconst (v := nI 1) hx hb dJ2_add_2_17 (by decide) ?_
      refine mm_iadd hx hb dJ2_add_2_18 ?_
      refine mm_put (C := RJ2) (T := TJ2) (N := 3) (ci := 15) (v := .int (nI (n + 1))) (ty := .int) hx hb hts in_J2 tyJ2 tyJ2_ok nmJ2 hown hKK hO hS (Or.inl (Or.inl rfl)) rfl 2 (by decide) (hts _ q212) (fun _ h9 => h9) rfl  (by decide +kernel) (rfl) (rfl) (Nat.le_of_ble_eq_true rfl) dJ2_add_2_19 (fun H_19 L_19 hO hz_19 hq_19 hS => ?_)
      have hO : mm_ob G (mm_h H_19) a 15 [.int mc, .ref b_7, .int (nI (n + 1))] := hO
      have hA := hA.kept (hq_19 _ ((Ne.symm hne_b)))
      exact mm_vret hx hb hr hlk hS (Nat.le_of_ble_eq_true rfl) (Nat.le_of_ble_eq_true rfl) (⟨rfl, b_7, cap2, ⟨hO, by omega, by omega, hne_b, .inr ⟨by omega, by rw [← alF_add]; exact hA⟩⟩, .inr hb2⟩) dJ2_add_2_22
  · have hA := hL.q hz
    refine lv_iload_n hx hb dJ2_add_2_0 rfl (lv_at hl 3 rfl) ?_
    refine lv_aload_n hx hb dJ2_add_2_1 rfl (lv_at hl 2 rfl) ?_
    refine mm_alen hx hb hKK 4 rfl hA mm_le.rf dJ2_add_2_2 ?_
    refine mm_icmp_ne (tgt := 11) (by omega) (by omega) hx hb dJ2_add_2_3 (by decide) (fun c_3 => ?_) (fun c_3 => ?_)
    · have hcp : 0 < cap := by omega
      have hA := hL.q hcp
      refine lv_aload_n hx hb dJ2_add_2_11 rfl (lv_at hl 2 rfl) ?_
      refine lv_iload_n hx hb dJ2_add_2_12 rfl (lv_at hl 3 rfl) ?_
      refine lv_aload_n hx hb dJ2_add_2_13 rfl (lv_at hl 1 rfl) ?_
      refine mm_aast (k := n) hx hb hKK hA hS (Or.inl (Or.inr ⟨hcp, rfl⟩)) (by omega) (by omega) hv hWe dJ2_add_2_14 (fun H_14 L_14 hA hz_14 hq_14 hS => ?_)
      have hO := hO.kept (hq_14 _ ((Ne.symm hnea).symm))
      refine lv_aload_n hx hb dJ2_add_2_15 rfl (lv_at hl 0 rfl) ?_
      refine lv_iload_n hx hb dJ2_add_2_16 rfl (lv_at hl 3 rfl) ?_
      refine lv_iconst (v := nI 1) hx hb dJ2_add_2_17 (by decide) ?_
      refine mm_iadd hx hb dJ2_add_2_18 ?_
      refine mm_put (C := RJ2) (T := TJ2) (N := 3) (ci := 15) (v := .int (nI (n + 1))) (ty := .int) hx hb hts in_J2 tyJ2 tyJ2_ok nmJ2 hown hKK hO hS (Or.inl (Or.inl rfl)) rfl 2 (by decide) (hts _ q212) (fun _ h9 => h9) rfl  (by decide +kernel) (rfl) (rfl) (Nat.le_of_ble_eq_true rfl) dJ2_add_2_19 (fun H_19 L_19 hO hz_19 hq_19 hS => ?_)
      have hO : mm_ob G (mm_h H_19) a 15 [.int mc, .ref arr, .int (nI (n + 1))] := hO
      have hA := hA.kept (hq_19 _ ((Ne.symm hnea)))
      exact mm_vret hx hb hr hlk hS (Nat.le_of_ble_eq_true rfl) (Nat.le_of_ble_eq_true rfl) (⟨rfl, arr, cap, ⟨hO, by omega, by omega, hnea, .inr ⟨hcp, by rw [← alF_add]; exact hA⟩⟩, .inl rfl⟩) dJ2_add_2_22
    · have c_3 : n = cap := by omega
      refine lv_aload_n hx hb dJ2_add_2_6 rfl (lv_at hl 0 rfl) ?_
      have halt := hO.lt
      refine mm_rr (va_runV (As := []) (rest := []) ⟨hx, hb, hml, hown, hts⟩ (a_grow l hF hL c_3 hn9 hel hWe) (cwV 0 hts (lw_V q260 q262 qs1 q138 q263) rfl rfl rfl (by decide +kernel) ⟨Nat.le_of_ble_eq_true rfl, Nat.le_of_ble_eq_true rfl⟩) (mm_pV hKK (mm_rc hKK hO mm_le.rf rfl)) rfl rfl hl.1 rfl (lv_room (Nat.le_of_ble_eq_true rfl)) dJ2_add_2_7 ⟨Nat.le_of_ble_eq_true rfl, Nat.le_of_ble_eq_true rfl⟩) hS (mm_sM hS (fun q z => Or.inl (Or.inl z))) (fun b_7 H_7 L_7 hB_7 hz_7 hq_7 hS => ?_)
      obtain ⟨cap2, hO, hA, hc2, hc3, hb2⟩ := hB_7
      have hWe := hWe.keep hq_7 (fun q z => by rw [z]; exact hWa)
      have hne_b : a ≠ b_7 := Nat.ne_of_lt (Nat.lt_of_lt_of_le halt hb2)
      refine lv_astore_n (lv' := [(2, .ref b_7), (0, .ref a), (1, .ref v), (3, .int (nI n))]) hx hb dJ2_add_2_10 rfl hl (by decide) rfl (fun ls hl => ?_)
      refine lv_aload_n hx hb dJ2_add_2_11 rfl (lv_at hl 0 rfl) ?_
      refine lv_iload_n hx hb dJ2_add_2_12 rfl (lv_at hl 3 rfl) ?_
      refine lv_aload_n hx hb dJ2_add_2_13 rfl (lv_at hl 2 rfl) ?_
      refine mm_aast (k := n) hx hb hKK hA hS (Or.inr hb2) (by omega) (by omega) hv hWe dJ2_add_2_14 (fun H_14 L_14 hA hz_14 hq_14 hS => ?_)
      have hO := hO.kept (hq_14 _ ((Ne.symm hne_b).symm))
      refine lv_aload_n hx hb dJ2_add_2_15 rfl (lv_at hl 1 rfl) ?_
      refine lv_iload_n hx hb dJ2_add_2_16 rfl (lv_at hl 3 rfl) ?_
      refine lv_iconst (v := nI 1) hx hb dJ2_add_2_17 (by decide) ?_
      refine mm_iadd hx hb dJ2_add_2_18 ?_
      refine mm_put (C := RJ2) (T := TJ2) (N := 3) (ci := 15) (v := .int (nI (n + 1))) (ty := .int) hx hb hts in_J2 tyJ2 tyJ2_ok nmJ2 hown hKK hO hS (Or.inl (Or.inl rfl)) rfl 2 (by decide) (hts _ q212) (fun _ h9 => h9) rfl  (by decide +kernel) (rfl) (rfl) (Nat.le_of_ble_eq_true rfl) dJ2_add_2_19 (fun H_19 L_19 hO hz_19 hq_19 hS => ?_)
      have hO : mm_ob G (mm_h H_19) a 15 [.int mc, .ref b_7, .int (nI (n + 1))] := hO
      have hA := hA.kept (hq_19 _ ((Ne.symm hne_b)))
      exact mm_vret hx hb hr hlk hS (Nat.le_of_ble_eq_true rfl) (Nat.le_of_ble_eq_true rfl) (⟨rfl, b_7, cap2, ⟨hO, by omega, by omega, hne_b, .inr ⟨by omega, by rw [← alF_add]; exact hA⟩⟩, .inr hb2⟩) dJ2_add_2_22
set_option maxRecDepth 100000 in
theorem a_add (l : Launch) {G : mm_G} {P : mm_H} {H : Heap} {We : mm_H} {v : Nat} {a arr cap n : Nat} {mc : Int32} {es : Nat → Nat} (hF : mm_le P (mm_h H)) (hL : AL G (mm_h H) a arr cap mc n es) (hn9 : n ≤ 190) (hel : ∀ j, j < n → mm_el G We (es j)) (hv : mm_el G We v) (hWe : mm_le We (mm_h H)) (hWa : We a = none) (hWr : 0 < cap → We arr = none) (hPa : P a = none) : Mt l yJ2_add (ws_ yJ2_add cJ2_add 2 (some .boolean)) 8 320 1 300 G P [.ref a, .ref v] H (fun q => q = a ∨ (0 < cap ∧ q = arr)) (mm_i (mm_b true) (fun H1 => ∃ arr2 cap2, AL G (mm_h H1) a arr2 cap2 (mc + nI 1) (n + 1) (fun j => if j = n then v else es j) ∧ (arr2 = arr ∨ H.size ≤ arr2))) := by
  refine Mt.of (by decide) (Nat.le_of_ble_eq_true rfl) (fun p e s m below meth c ls hx hb hr hlk hml hown hnm hts hKK hsH hl hS => ?_)
  have hl : lv_has ls 2 [(0, .ref a), (1, .ref v)] := hl
  have hO := hL.1
  have hnc := hL.2.1
  have hc16 := hL.2.2.1
  have hnea := hL.2.2.2.1
  refine lv_aload_n hx hb dJ2_add_0 rfl (lv_at hl 0 rfl) ?_
  refine lv_dup hx hb dJ2_add_1 rfl ?_
  refine mm_get (C := RJ2) (T := TJ2) (N := 3) (ci := 15) (v := .int mc) hx hb hts in_J2 hown hKK (mm_ob.rb hO) mm_le.rf rfl 0 (by decide) (hts _ q216) (u_same (hts _ q215)) rfl dJ2_add_2 ?_
  refine lv_iconst (v := nI 1) hx hb dJ2_add_5 (by decide) ?_
  refine lv_iadd hx hb dJ2_add_6 ?_
  refine mm_put (C := RJ2) (T := TJ2) (N := 3) (ci := 15) (v := .int (mc + (nI 1))) (ty := .int) hx hb hts in_J2 tyJ2 tyJ2_ok nmJ2 hown hKK hO hS (Or.inl (Or.inl rfl)) rfl 0 (by decide) (hts _ q216) (u_same (hts _ q215)) rfl  (by decide +kernel) (rfl) (rfl) (Nat.le_of_ble_eq_true rfl) dJ2_add_7 (fun H_7 L_7 hO hz_7 hq_7 hS => ?_)
  have hO : mm_ob G (mm_h H_7) a 15 [.int (mc + (nI 1)), .ref arr, .int (nI n)] := hO
  refine lv_aload_n hx hb dJ2_add_10 rfl (lv_at hl 0 rfl) ?_
  refine lv_aload_n hx hb dJ2_add_11 rfl (lv_at hl 1 rfl) ?_
  refine lv_aload_n hx hb dJ2_add_12 rfl (lv_at hl 0 rfl) ?_
  refine mm_get (C := RJ2) (T := TJ2) (N := 3) (ci := 15) (v := .ref arr) hx hb hts in_J2 hown hKK (mm_ob.rb hO) mm_le.rf rfl 1 (by decide) (hts _ q209) (fun _ h9 => h9) rfl dJ2_add_13 ?_
  refine lv_aload_n hx hb dJ2_add_16 rfl (lv_at hl 0 rfl) ?_
  refine mm_get (C := RJ2) (T := TJ2) (N := 3) (ci := 15) (v := .int (nI n)) hx hb hts in_J2 hown hKK (mm_ob.rb hO) mm_le.rf rfl 2 (by decide) (hts _ q212) (fun _ h9 => h9) rfl dJ2_add_17 ?_
  have hL1 : AL G (mm_h H_7) a arr cap (mc + nI 1) n es := ⟨hO, hnc, hc16, hnea, hL.2.2.2.2.imp id (fun z => ⟨z.1, z.2.kept (hq_7 _ (Ne.symm hnea))⟩)⟩
  have hWe := hWe.put hq_7 hWa
  have hF := hF.put hq_7 hPa
  refine mm_rv (va_runV (As := [.ref v, .ref arr, .int (nI n)]) (rest := []) ⟨hx, hb, hml, hown, hts⟩ (a_add2 l hF hL1 hn9 hel hv hWe hWa hWr) (cwV 3 hts (lw_V q256 q258 qs0 q138 q259) rfl rfl rfl (by decide +kernel) ⟨Nat.le_of_ble_eq_true rfl, Nat.le_of_ble_eq_true rfl⟩) (mm_pV hKK (mm_rc hKK hO mm_le.rf rfl)) rfl rfl hl.1 rfl (lv_room (Nat.le_of_ble_eq_true rfl)) dJ2_add_20 ⟨Nat.le_of_ble_eq_true rfl, Nat.le_of_ble_eq_true rfl⟩) hS (mm_sS hS) (fun H_20 L_20 hB_20 hz_20 hq_20 hS => ?_)
  refine lv_iconst (v := nI 1) hx hb dJ2_add_23 (by decide) ?_
  refine mm_top (y := mm_b true) rfl ?_
  exact mm_zret (v := mm_b true) hx hb hr hlk hS (Nat.le_of_ble_eq_true rfl) (Nat.le_of_ble_eq_true rfl) (mm_nb _) (⟨rfl, by obtain ⟨arr2, cap2, h1, h2⟩ := hB_20; exact ⟨arr2, cap2, h1, h2.imp id (fun z => by omega)⟩⟩) dJ2_add_24
