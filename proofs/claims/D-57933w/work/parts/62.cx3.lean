/-! the component: the store read, counted (printed by tools/cx3.py) -/
set_option maxRecDepth 100000 in
theorem x_count (l : Launch) {G : mm_G} {P : mm_H} {H : Heap} {V : mm_H} {a n : Nat} {mk : Nat → Bool} (hA : mm_ia G V a 2 n (fun j => mm_b (mk j))) (hWF : mm_le V (mm_h H)) (hn9 : n < 1000) : Mt l yX2_count (ws_ yX2_count cX2_count 6 (some .int)) 0 0 0 0 G P [.ref a] H mm_0 (mm_pu (.int (nI (cB n mk))) H) := by
  refine Mt.of (by decide) (Nat.le_of_ble_eq_true rfl) (fun p e s m below meth c ls hx hb hr hlk hml hown hnm hts hKK hsH hl hS => ?_)
  have hl : lv_has ls 6 [(0, .ref a)] := hl
  refine lv_iconst (v := nI 0) hx hb dX2_count_0 (by decide) ?_
  refine lv_istore_n (lv' := [(1, .int (nI 0)), (0, .ref a)]) hx hb dX2_count_1 rfl hl (by decide) rfl (fun ls hl => ?_)
  refine lv_aload_n hx hb dX2_count_2 rfl (lv_at hl 1 rfl) ?_
  refine lv_astore_n (lv' := [(2, .ref a), (1, .int (nI 0)), (0, .ref a)]) hx hb dX2_count_3 rfl hl (by decide) rfl (fun ls hl => ?_)
  refine lv_aload_n hx hb dX2_count_4 rfl (lv_at hl 0 rfl) ?_
  refine mm_alen hx hb hKK 2 rfl hA hWF dX2_count_5 ?_
  refine lv_istore_n (lv' := [(3, .int (nI n)), (2, .ref a), (1, .int (nI 0)), (0, .ref a)]) hx hb dX2_count_6 rfl hl (by decide) rfl (fun ls hl => ?_)
  refine lv_iconst (v := nI 0) hx hb dX2_count_7 (by decide) ?_
  refine lv_istore (lv' := [(4, .int (nI 0)), (3, .int (nI n)), (2, .ref a), (1, .int (nI 0)), (0, .ref a)]) hx hb dX2_count_8 hl (by decide) rfl (fun ls hl => ?_)
  have lp_10 : ∀ (fu : Nat) (i : Nat)  (L : List Loc) (ls : Array Slot), n - i < fu → (i ≤ n) → lv_has ls 6 [(1, .int (nI (cB i mk))), (4, .int (nI i)), (0, .ref a), (2, .ref a), (3, .int (nI n))] → va_S (mm_A mm_0 H) H H L → W p l e (mm_rm 0 0 0 0) s m ([.ref a] : List Value).toArray below meth c H L 0 0 (MQ below (mm_Qc H mm_0 (mm_pu (.int (nI (cB n mk))) H)) ([.ref a] : List Value).toArray s 0 0 (mm_A mm_0 H)) (F0 m 10 ls []) := by
    intro fu; induction fu with
    | zero => intro i L ls hfu; exact absurd hfu (Nat.not_lt_zero _)
    | succ fu ih =>
      intro i L ls hfu hi hl  hS
      have ih_10 := ih
      have hcb := cB_le i mk
      refine lv_iload hx hb dX2_count_10 (lv_at hl 1 rfl) ?_
      refine lv_iload_n hx hb dX2_count_12 rfl (lv_at hl 4 rfl) ?_
      refine mm_icmp_ge (tgt := 36) (by omega) (by omega) hx hb dX2_count_13 (by decide) (fun c_13 => ?_) (fun c_13 => ?_)
      · refine lv_iload_n hx hb dX2_count_36 rfl (lv_at hl 0 rfl) ?_
        exact mm_iret (v := nI (cB i mk)) hx hb hr hlk hS (Nat.le_of_ble_eq_true rfl) (Nat.le_of_ble_eq_true rfl) (⟨by rw [show i = n by omega], rfl⟩) dX2_count_37
      · refine lv_aload_n hx hb dX2_count_16 rfl (lv_at hl 3 rfl) ?_
        refine lv_iload hx hb dX2_count_17 (lv_at hl 1 rfl) ?_
        refine mm_zald (k := i) hx hb hKK hA hWF (by omega) (by omega) dX2_count_19 ?_
        refine lv_istore (lv' := [(5, .int (mm_b (mk i))), (1, .int (nI (cB i mk))), (4, .int (nI i)), (0, .ref a), (2, .ref a), (3, .int (nI n))]) hx hb dX2_count_20 hl (by decide) rfl (fun ls hl => ?_)
        refine lv_iload hx hb dX2_count_22 (lv_at hl 0 rfl) ?_
        refine mm_ifeqB (tgt := 30) hx hb dX2_count_24 (by decide) (fun c_24 => ?_) (fun c_24 => ?_)
        · have hcn : cB i mk = cB (i + 1) mk := by rw [cB_succ, c_24]; rfl
          rw [hcn] at hl
          refine lv_iinc (v := nI (i + 1)) (lv' := [(4, .int (nI (i + 1))), (5, .int (mm_b (mk i))), (1, .int (nI (cB (i + 1) mk))), (0, .ref a), (2, .ref a), (3, .int (nI n))]) hx hb dX2_count_30 hl (k := 2) rfl (nI_add _ _) (by decide) rfl (fun ls hl => ?_)
          refine lv_goto (tgt := 10) hx hb dX2_count_33 (by decide) ?_
          exact ih_10 (i + 1) _ _ (by omega) (by omega) (lv_sub hl [2, 0, 3, 4, 5] rfl)  hS
        · refine lv_iinc (v := nI (cB i mk + 1)) (lv' := [(1, .int (nI (cB i mk + 1))), (5, .int (mm_b (mk i))), (4, .int (nI i)), (0, .ref a), (2, .ref a), (3, .int (nI n))]) hx hb dX2_count_27 hl (k := 1) rfl (nI_add _ _) (by decide) rfl (fun ls hl => ?_)
          have hcn : cB i mk + 1 = cB (i + 1) mk := by rw [cB_succ, c_24]; rfl
          rw [hcn] at hl
          refine lv_iinc (v := nI (i + 1)) (lv' := [(4, .int (nI (i + 1))), (1, .int (nI (cB (i + 1) mk))), (5, .int (mm_b (mk i))), (0, .ref a), (2, .ref a), (3, .int (nI n))]) hx hb dX2_count_30 hl (k := 2) rfl (nI_add _ _) (by decide) rfl (fun ls hl => ?_)
          refine lv_goto (tgt := 10) hx hb dX2_count_33 (by decide) ?_
          exact ih_10 (i + 1) _ _ (by omega) (by omega) (lv_sub hl [1, 0, 3, 4, 5] rfl)  hS
  exact lp_10 _ 0 _ _ (Nat.lt_succ_self _) (by omega) (lv_sub hl [3, 0, 4, 2, 1] rfl)  hS
set_option maxRecDepth 100000 in
theorem x_countBoth (l : Launch) {G : mm_G} {P : mm_H} {H : Heap} {V : mm_H} {a b n : Nat} {mk mo : Nat → Bool} {f9 : Bool} (hA : mm_ia G V a 2 n (fun j => mm_b (mk j))) (hB : mm_ia G V b 2 n (fun j => mm_b (mo j))) (hWF : mm_le V (mm_h H)) (hn9 : n < 1000) : Mt l yX2_countBoth (ws_ yX2_countBoth cX2_countBoth 5 (some .int)) 0 0 0 0 G P [.ref a, .ref b, .int (mm_b f9)] H mm_0 (mm_pu (.int (nI (cB n (fun j => mk j && (mo j == f9))))) H) := by
  refine Mt.of (by decide) (Nat.le_of_ble_eq_true rfl) (fun p e s m below meth c ls hx hb hr hlk hml hown hnm hts hKK hsH hl hS => ?_)
  have hl : lv_has ls 5 [(0, .ref a), (1, .ref b), (2, .int (mm_b f9))] := hl
  refine lv_iconst (v := nI 0) hx hb dX2_countBoth_0 (by decide) ?_
  refine lv_istore_n (lv' := [(3, .int (nI 0)), (0, .ref a), (1, .ref b), (2, .int (mm_b f9))]) hx hb dX2_countBoth_1 rfl hl (by decide) rfl (fun ls hl => ?_)
  refine lv_iconst (v := nI 0) hx hb dX2_countBoth_2 (by decide) ?_
  refine lv_istore (lv' := [(4, .int (nI 0)), (3, .int (nI 0)), (0, .ref a), (1, .ref b), (2, .int (mm_b f9))]) hx hb dX2_countBoth_3 hl (by decide) rfl (fun ls hl => ?_)
  have lp_5 : ∀ (fu : Nat) (i : Nat)  (L : List Loc) (ls : Array Slot), n - i < fu → (i ≤ n) → lv_has ls 5 [(3, .int (nI (cB i (fun j => mk j && (mo j == f9))))), (4, .int (nI i)), (0, .ref a), (1, .ref b), (2, .int (mm_b f9))] → va_S (mm_A mm_0 H) H H L → W p l e (mm_rm 0 0 0 0) s m ([.ref a, .ref b, .int (mm_b f9)] : List Value).toArray below meth c H L 0 0 (MQ below (mm_Qc H mm_0 (mm_pu (.int (nI (cB n (fun j => mk j && (mo j == f9))))) H)) ([.ref a, .ref b, .int (mm_b f9)] : List Value).toArray s 0 0 (mm_A mm_0 H)) (F0 m 5 ls []) := by
    intro fu; induction fu with
    | zero => intro i L ls hfu; exact absurd hfu (Nat.not_lt_zero _)
    | succ fu ih =>
      intro i L ls hfu hi hl  hS
      have ih_5 := ih
      have hcb := cB_le i (fun j => mk j && (mo j == f9))
      refine lv_iload hx hb dX2_countBoth_5 (lv_at hl 1 rfl) ?_
      refine lv_aload_n hx hb dX2_countBoth_7 rfl (lv_at hl 2 rfl) ?_
      refine mm_alen hx hb hKK 2 rfl hA hWF dX2_countBoth_8 ?_
      refine mm_icmp_ge (tgt := 36) (by omega) (by omega) hx hb dX2_countBoth_9 (by decide) (fun c_9 => ?_) (fun c_9 => ?_)
      · refine lv_iload_n hx hb dX2_countBoth_36 rfl (lv_at hl 0 rfl) ?_
        exact mm_iret (v := nI (cB i (fun j => mk j && (mo j == f9)))) hx hb hr hlk hS (Nat.le_of_ble_eq_true rfl) (Nat.le_of_ble_eq_true rfl) (⟨by rw [show i = n by omega], rfl⟩) dX2_countBoth_37
      · refine lv_aload_n hx hb dX2_countBoth_12 rfl (lv_at hl 2 rfl) ?_
        refine lv_iload hx hb dX2_countBoth_13 (lv_at hl 1 rfl) ?_
        refine mm_zald (k := i) hx hb hKK hA hWF (by omega) (by omega) dX2_countBoth_15 ?_
        refine mm_ifeqB (tgt := 30) hx hb dX2_countBoth_16 (by decide) (fun c_16 => ?_) (fun c_16 => ?_)
        · have hcn : cB i (fun j => mk j && (mo j == f9)) = cB (i + 1) (fun j => mk j && (mo j == f9)) := by rw [cB_succ]; simp [c_16]
          rw [hcn] at hl
          refine lv_iinc (v := nI (i + 1)) (lv' := [(4, .int (nI (i + 1))), (3, .int (nI (cB (i + 1) (fun j => mk j && (mo j == f9))))), (0, .ref a), (1, .ref b), (2, .int (mm_b f9))]) hx hb dX2_countBoth_30 hl (k := 1) rfl (nI_add _ _) (by decide) rfl (fun ls hl => ?_)
          refine lv_goto (tgt := 5) hx hb dX2_countBoth_33 (by decide) ?_
          exact ih_5 (i + 1) _ _ (by omega) (by omega) (lv_sub hl [1, 0, 2, 3, 4] rfl)  hS
        · refine lv_aload_n hx hb dX2_countBoth_19 rfl (lv_at hl 3 rfl) ?_
          refine lv_iload hx hb dX2_countBoth_20 (lv_at hl 1 rfl) ?_
          refine mm_zald (k := i) hx hb hKK hB hWF (by omega) (by omega) dX2_countBoth_22 ?_
          refine lv_iload_n hx hb dX2_countBoth_23 rfl (lv_at hl 4 rfl) ?_
          refine lv_icmp_ne (tgt := 30) hx hb dX2_countBoth_24 (by decide) (fun c_24 => ?_) (fun c_24 => ?_)
          · have hne : ¬ mo i = f9 := fun z => c_24 (congrArg mm_b z)
            have hcn : cB i (fun j => mk j && (mo j == f9)) = cB (i + 1) (fun j => mk j && (mo j == f9)) := by rw [cB_succ]; simp [c_16, hne]
            rw [hcn] at hl
            refine lv_iinc (v := nI (i + 1)) (lv' := [(4, .int (nI (i + 1))), (3, .int (nI (cB (i + 1) (fun j => mk j && (mo j == f9))))), (0, .ref a), (1, .ref b), (2, .int (mm_b f9))]) hx hb dX2_countBoth_30 hl (k := 1) rfl (nI_add _ _) (by decide) rfl (fun ls hl => ?_)
            refine lv_goto (tgt := 5) hx hb dX2_countBoth_33 (by decide) ?_
            exact ih_5 (i + 1) _ _ (by omega) (by omega) (lv_sub hl [1, 0, 2, 3, 4] rfl)  hS
          · have heq : mo i = f9 := mm_b_inj c_24
            refine lv_iinc (v := nI (cB i (fun j => mk j && (mo j == f9)) + 1)) (lv' := [(3, .int (nI (cB i (fun j => mk j && (mo j == f9)) + 1))), (4, .int (nI i)), (0, .ref a), (1, .ref b), (2, .int (mm_b f9))]) hx hb dX2_countBoth_27 hl (k := 0) rfl (nI_add _ _) (by decide) rfl (fun ls hl => ?_)
            have hcn : cB i (fun j => mk j && (mo j == f9)) + 1 = cB (i + 1) (fun j => mk j && (mo j == f9)) := by rw [cB_succ]; simp [c_16, heq]
            rw [hcn] at hl
            refine lv_iinc (v := nI (i + 1)) (lv' := [(4, .int (nI (i + 1))), (3, .int (nI (cB (i + 1) (fun j => mk j && (mo j == f9))))), (0, .ref a), (1, .ref b), (2, .int (mm_b f9))]) hx hb dX2_countBoth_30 hl (k := 1) rfl (nI_add _ _) (by decide) rfl (fun ls hl => ?_)
            refine lv_goto (tgt := 5) hx hb dX2_countBoth_33 (by decide) ?_
            exact ih_5 (i + 1) _ _ (by omega) (by omega) (lv_sub hl [1, 0, 2, 3, 4] rfl)  hS
  exact lp_5 _ 0 _ _ (Nat.lt_succ_self _) (by omega) (lv_sub hl [1, 0, 2, 3, 4] rfl)  hS
set_option maxRecDepth 100000 in
theorem x_depth (l : Launch) {G : mm_G} {P : mm_H} {H : Heap} {V Q : mm_H} {S : sp_S} {a : Nat} {nd vs tr og num : Nat → Nat} {v : Nat} (hSF : SF G V Q a S nd vs tr og num) (hWF : mm_le V (mm_h H)) (hQF : mm_le Q (mm_h H)) (hW : WF S) (hv9 : v < s_nv S) : Mt l yX2_depth (ws_ yX2_depth cX2_depth 4 (some .int)) 4 120 0 0 G P [.ref a, .int (nI v)] H mm_0 (mm_pu (.int (nI (dep S v))) H) := by
  refine Mt.of (by decide) (Nat.le_of_ble_eq_true rfl) (fun p e s m below meth c ls hx hb hr hlk hml hown hnm hts hKK hsH hl hS => ?_)
  have hl : lv_has ls 4 [(0, .ref a), (1, .int (nI v))] := hl
  obtain ⟨⟨vl, va, vcap, nl, na, ncap, vmc, nmc, hOS, hVL, hNLs⟩, hV, hD, hJ, hnum⟩ := id hSF
  have hnv := hW.nv
  have hnn := hW.nn
  have hcs := cB_le (s_nn S) (s_sto S)
  refine lv_iconst (v := nI 0) hx hb dX2_depth_0 (by decide) ?_
  refine lv_istore_n (lv' := [(2, .int (nI 0)), (0, .ref a), (1, .int (nI v))]) hx hb dX2_depth_1 rfl hl (by decide) rfl (fun ls hl => ?_)
  refine lv_aload_n hx hb dX2_depth_2 rfl (lv_at hl 1 rfl) ?_
  refine lv_iload_n hx hb dX2_depth_3 rfl (lv_at hl 2 rfl) ?_
  obtain ⟨hv_3, ⟨rt_3, ht_3, hrt_3⟩, hog_3⟩ := hV v (by omega)
  refine mm_rpu (va_runV (As := [.int (nI v)]) (rest := []) ⟨hx, hb, hml, hown, hts⟩ (x_ver l hSF hWF hQF hW (by omega)) (cwV 1 hts (lw_V q1086 q1087 q1088 q146 q1089) rfl rfl rfl (by decide +kernel) ⟨Nat.le_of_ble_eq_true rfl, Nat.le_of_ble_eq_true rfl⟩) (mm_pV hKK (mm_rc hKK hOS hWF rfl)) rfl rfl hl.1 rfl (lv_room (Nat.le_of_ble_eq_true rfl)) dX2_depth_4 ⟨Nat.le_of_ble_eq_true rfl, Nat.le_of_ble_eq_true rfl⟩) hS (mm_s0 hS) (fun L_4 hS => ?_)
  refine mm_getN (C := RX7) (T := TX7) (N := 6) (ci := 2) (v := .int (oI (s_par S v))) hx hb hts in_X7 hown hKK (mm_ob.rb hv_3) hWF rfl 1 (by decide) q817 (fun _ h9 => h9) rfl dX2_depth_7 ?_
  refine lv_istore_n (lv' := [(3, .int (oI (s_par S v))), (2, .int (nI 0)), (0, .ref a), (1, .int (nI v))]) hx hb dX2_depth_10 rfl hl (by decide) rfl (fun ls hl => ?_)
  have lp_11 : ∀ (fu : Nat) (d : Nat) (o : Option Nat) (n : Nat)  (L : List Loc) (ls : Array Slot), n < fu → (∀ p, o = some p → p < n ∧ p < s_nv S) → (d + dO S n o = dep S v) → (d + n ≤ 80) → lv_has ls 4 [(2, .int (nI d)), (3, .int (oI o)), (0, .ref a), (1, .int (nI v))] → va_S (mm_A mm_0 H) H H L → W p l e (mm_rm 4 120 0 0) s m ([.ref a, .int (nI v)] : List Value).toArray below meth c H L 0 0 (MQ below (mm_Qc H mm_0 (mm_pu (.int (nI (dep S v))) H)) ([.ref a, .int (nI v)] : List Value).toArray s 0 0 (mm_A mm_0 H)) (F0 m 11 ls []) := by
    intro fu; induction fu with
    | zero => intro d o n L ls hfu; exact absurd hfu (Nat.not_lt_zero _)
    | succ fu ih =>
      intro d o n L ls hfu ho hd hdb hl  hS
      have ih_11 := ih
      refine lv_iload_n hx hb dX2_depth_11 rfl (lv_at hl 1 rfl) ?_
      refine lv_iconst (v := (-1)) hx hb dX2_depth_12 (by decide) ?_
      refine mm_icmp_eqM (tgt := 31) (fun r hr => by have := (ho r hr).2; omega) hx hb dX2_depth_13 (by decide) (fun c_13 => ?_) (fun r_13 c_13 => ?_)
      · refine lv_iload_n hx hb dX2_depth_31 rfl (lv_at hl 0 rfl) ?_
        exact mm_iret (v := nI d) hx hb hr hlk hS (Nat.le_of_ble_eq_true rfl) (Nat.le_of_ble_eq_true rfl) (⟨by rw [← hd, c_13]; cases n <;> rfl, rfl⟩) dX2_depth_32
      · obtain ⟨hn1, hr1⟩ := ho r_13 c_13
        refine lv_iinc (v := nI (d + 1)) (lv' := [(2, .int (nI (d + 1))), (3, .int (oI o)), (0, .ref a), (1, .int (nI v))]) hx hb dX2_depth_16 hl (k := 0) rfl (nI_add _ _) (by decide) rfl (fun ls hl => ?_)
        refine lv_aload_n hx hb dX2_depth_19 rfl (lv_at hl 2 rfl) ?_
        refine lv_iload_n hx hb dX2_depth_20 rfl (lv_at hl 1 rfl) ?_
        refine mm_top (y := nI r_13) (oI_some c_13) ?_
        obtain ⟨hv_4, ⟨rt_4, ht_4, hrt_4⟩, hog_4⟩ := hV r_13 (by omega)
        refine mm_rpu (va_runV (As := [.int (nI r_13)]) (rest := []) ⟨hx, hb, hml, hown, hts⟩ (x_ver l hSF hWF hQF hW (by omega)) (cwV 1 hts (lw_V q1086 q1087 q1088 q146 q1089) rfl rfl rfl (by decide +kernel) ⟨Nat.le_of_ble_eq_true rfl, Nat.le_of_ble_eq_true rfl⟩) (mm_pV hKK (mm_rc hKK hOS hWF rfl)) rfl rfl hl.1 rfl (lv_room (Nat.le_of_ble_eq_true rfl)) dX2_depth_21 ⟨Nat.le_of_ble_eq_true rfl, Nat.le_of_ble_eq_true rfl⟩) hS (mm_s0 hS) (fun L_21 hS => ?_)
        refine mm_getN (C := RX7) (T := TX7) (N := 6) (ci := 2) (v := .int (oI (s_par S r_13))) hx hb hts in_X7 hown hKK (mm_ob.rb hv_4) hWF rfl 1 (by decide) q817 (fun _ h9 => h9) rfl dX2_depth_24 ?_
        refine lv_istore_n (lv' := [(3, .int (oI (s_par S r_13))), (2, .int (nI (d + 1))), (0, .ref a), (1, .int (nI v))]) hx hb dX2_depth_27 rfl hl (by decide) rfl (fun ls hl => ?_)
        refine lv_goto (tgt := 11) hx hb dX2_depth_28 (by decide) ?_
        exact ih_11 (d + 1) (s_par S r_13) (n - 1) _ _ (by omega) (fun p hp => ⟨by have := hW.par hr1 hp; omega, by have := hW.par hr1 hp; omega⟩) (by obtain ⟨n, rfl⟩ : ∃ z, n = z + 1 := ⟨n - 1, by omega⟩; rw [c_13] at hd; simp only [dO] at hd; rw [Nat.add_sub_cancel]; omega) (by omega) (lv_sub hl [1, 0, 2, 3] rfl)  hS
  exact lp_11 _ 0 (s_par S v) 40 _ _ (Nat.lt_succ_self _) (fun p hp => ⟨by have := hW.par hv9 hp; omega, by have := hW.par hv9 hp; omega⟩) (Nat.zero_add _) (by omega) (lv_sub hl [1, 0, 2, 3] rfl)  hS
