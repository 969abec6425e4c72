/-! the twin: a script run (printed by tools/tw25.py) -/
/-- what running a script leaves -/
def RSr (S : sp_S) (k : Nat) (r : pR (Nat × (Nat → pS))) (I I2 : Nat → Int32) (F F2 : Nat → Nat → Int32) : Prop := (I2 6 = nI 0 ∧ I2 13 = nI 0) ∧ match r with
  | .error (c, o) => I2 14 = nI c ∧ I2 15 = nI o ∧ exI [6, 13, 14, 15, 16, 17, 18, 19, 20, 21, 23] I I2 ∧ eqx [22] F F2
  | .ok (c, g) => I2 14 = nI 0 ∧ I2 15 = -1 ∧ I2 4 = nI (min k 7 + 1) ∧ exI [4, 6, 13, 14, 15, 16, 17, 18, 19, 20, 21, 23] I I2 ∧ eqx [0, 3, 7, 11, 22] F F2 ∧ (∀ j, j < 4210 → F2 3 (4210 * min k 7 + j) = F 0 j) ∧ (∀ j, j < 4210 * min k 7 → F2 3 j = F 3 (j + (if k = 8 then 4210 else 0))) ∧ TR (F2 0) (exL g c 0 S).2
def rsV (S : sp_S) (r : pR (Nat × (Nat → pS))) : Int32 := match r with
  | .error _ => -1
  | .ok (c, g) => nI (exL g c 0 S).1
theorem stR_cg {f f2 : Nat → Int32} {i : Nat} {x : pS} (h : stR f i x) (k : ∀ j, j < 4 * i + 4 → f2 j = f j) : stR f2 i x := by
  obtain ⟨h0, h1, h2, h3, h4, h5⟩ := h
  exact ⟨h0, (k _ (by omega)).trans h1, fun z => (k _ (by omega)).trans (h2 z), fun z => (k _ (by omega)).trans (h3 z), fun z => (k _ (by omega)).trans (h4 z), fun z => (k _ (by omega)).trans (h5 z)⟩
theorem stR_ext {f f2 : Nat → Int32} {c : Nat} {g : Nat → pS} {x : pS} (h : ∀ i, i < c → stR f i (g i) ∧ stB (g i)) (k : ∀ j, j < 4 * c → f2 j = f j) (h1 : stR f2 c x) (h2 : stB x) : ∀ i, i < c + 1 → stR f2 i ((fun j => if j = c then x else g j) i) ∧ stB ((fun j => if j = c then x else g j) i) := by
  intro i hi
  by_cases z : i = c
  · subst z; dsimp only; rw [if_pos rfl]; exact ⟨h1, h2⟩
  · dsimp only; rw [if_neg z]; exact ⟨stR_cg (h i (by omega)).1 (fun j hj => k j (by omega)), (h i (by omega)).2⟩
theorem exL_s {g : Nat → pS} {c i : Nat} {S : sp_S} (hi : i < c) (h : (ex1 S (g i)).isSome = true) : exL g (c - (i + 1)) (i + 1) ((ex1 S (g i)).getD S) = exL g (c - i) i S := by
  obtain ⟨T, hT⟩ := Option.isSome_iff_exists.mp h
  rw [show c - i = (c - (i + 1)) + 1 by omega, hT]
  symm; show (match ex1 S (g i) with | none => _ | some T => _) = _
  rw [hT]; rfl
theorem exL_n {g : Nat → pS} {c i : Nat} {S : sp_S} (hi : i < c) (h : (ex1 S (g i)).isSome = false) : exL g (c - i) i S = (i, (ex1 S (g i)).getD S) := by
  have hT : ex1 S (g i) = none := by
    cases z : ex1 S (g i) with
    | none => rfl
    | some T => rw [z] at h; cases h
  rw [show c - i = (c - (i + 1)) + 1 by omega, hT]
  show (match ex1 S (g i) with | none => _ | some T => _) = _
  rw [hT]; rfl
theorem XI_getD {S : sp_S} {x : pS} (h : XI S) : XI ((ex1 S x).getD S) := by
  cases z : ex1 S x with
  | none => exact h
  | some T => exact XI_ex1 h z
set_option maxRecDepth 100000 in
theorem tm_runScript (l : Launch) {G : mm_G} {P : mm_H} {H : Heap} {x : Nat} {ad : Nat → Nat} {I : Nat → Int32} {F : Nat → Nat → Int32} {bt : Nat → Int32} {n : Nat} {S : sp_S} {k : Nat} (hT : TW G x ad I F H) (hR : TR (F 0) S) (hX : TX_ bt n I F) (hF : mm_le P (mm_h H)) (hMP : ∀ q, tw_M x ad q → P q = none) (hXI : XI S) (hk4 : I 4 = nI k) (hk8 : k ≤ 8) : Mt l yX8_runScript (ws_ yX8_runScript cX8_runScript 2 (some .int)) 22 1500 0 0 G P [.ref x] H (tw_M x ad) (mm_i (rsV S (pScript bt n)) (fun H2 => ∃ I2 F2, TW G x ad I2 F2 H2 ∧ RSr S k (pScript bt n) I I2 F F2)) := by
  refine Mt.of (by decide) (Nat.le_of_ble_eq_true rfl) (fun p e s m below meth c ls hx hb hr hlk hml hown hnm hts hKK hsH hl hS => ?_)
  have hl : lv_has ls 2 [(0, .ref x)] := hl
  have hR0 := hR
  have hMx : mm_A (tw_M x ad) H x := Or.inl (Or.inl rfl)
  have hMa : ∀ j, tw_isA j = true → mm_A (tw_M x ad) H (ad j) := fun j hj => Or.inl (Or.inr ⟨j, hj, rfl⟩)
  have hxi : exI [6, 13, 14, 15, 16, 17, 18, 19, 20, 21, 23] I I := exI.rf
  have hn6 := hX.2.1
  refine lv_aload_n hx hb dX8_runScript_0 rfl (lv_at hl 0 rfl) ?_
  refine lv_iconst (v := nI 0) hx hb dX8_runScript_1 (by decide) ?_
  refine tw_put 6 hx hb hts hown hKK hT hS (hMx) (by decide) rfl (by decide) ⟨rfl, rfl⟩ (hts _ q2504) dX8_runScript_2 (fun H_2 L_2 hT hz_2 hq_2 hS => ?_)
  have hX : TX_ bt n ((upd I 6 (nI 0))) F := ⟨(tw_un (by decide)).trans hX.1, hX.2⟩
  have hxi : exI [6, 13, 14, 15, 16, 17, 18, 19, 20, 21, 23] I ((upd I 6 (nI 0))) := hxi.tr (exI.u (by decide))
  have hF := hF.put hq_2 (hMP x (.inl rfl))
  have hk4 : ((upd I 6 (nI 0))) 4 = nI k := (tw_un (by decide)).trans hk4
  have hk6 : ((upd I 6 (nI 0))) 6 = nI 0 := tw_up _ _ _
  refine lv_aload_n hx hb dX8_runScript_5 rfl (lv_at hl 0 rfl) ?_
  refine lv_iconst (v := nI 0) hx hb dX8_runScript_6 (by decide) ?_
  refine tw_put 23 hx hb hts hown hKK hT hS (hMx) (by decide) rfl (by decide) ⟨rfl, rfl⟩ (hts _ q2521) dX8_runScript_7 (fun H_7 L_7 hT hz_7 hq_7 hS => ?_)
  have hX : TX_ bt n ((upd (upd I 6 (nI 0)) 23 (nI 0))) F := ⟨(tw_un (by decide)).trans hX.1, hX.2⟩
  have hxi : exI [6, 13, 14, 15, 16, 17, 18, 19, 20, 21, 23] I ((upd (upd I 6 (nI 0)) 23 (nI 0))) := hxi.tr (exI.u (by decide))
  have hF := hF.put hq_7 (hMP x (.inl rfl))
  have hk4 : ((upd (upd I 6 (nI 0)) 23 (nI 0))) 4 = nI k := (tw_un (by decide)).trans hk4
  have hk6 : ((upd (upd I 6 (nI 0)) 23 (nI 0))) 6 = nI 0 := (tw_un (by decide)).trans hk6
  have hk23 : ((upd (upd I 6 (nI 0)) 23 (nI 0))) 23 = nI 0 := tw_up _ _ _
  refine lv_aload_n hx hb dX8_runScript_10 rfl (lv_at hl 0 rfl) ?_
  refine mm_rv (va_runV (As := []) (rest := []) ⟨hx, hb, hml, hown, hts⟩ (t_beginText l hT hX) (cwV 0 hts (lw_V q2614 q2616 qs63 q164 q2617) rfl rfl rfl (by decide +kernel) ⟨Nat.le_of_ble_eq_true rfl, Nat.le_of_ble_eq_true rfl⟩) (mm_pV hKK (mm_rc hKK hT.2.1 mm_le.rf rfl)) rfl rfl hl.1 rfl (lv_room (Nat.le_of_ble_eq_true rfl)) dX8_runScript_11 ⟨Nat.le_of_ble_eq_true rfl, Nat.le_of_ble_eq_true rfl⟩) hS (mm_sS hS) (fun H_11 L_11 hB_11 hz_11 hq_11 hS => ?_)
  obtain ⟨I_11, hT, hx_11, hP⟩ := hB_11
  have hxi := hxi.tr (hx_11.mono (by decide))
  have hX : TX_ bt n I_11 F := ⟨(hx_11 13 (by decide)).trans hX.1, hX.2.1, hX.2.2⟩
  have hF := hF.keep hq_11 hMP
  have hk4 := (hx_11 4 (by decide)).trans hk4
  have hk6 := (hx_11 6 (by decide)).trans hk6
  have hk23 := (hx_11 23 (by decide)).trans hk23
  have hbd_0 := tk_bd (b := bt) (show 0 ≤ n from hP.1)
  have lp_14 : ∀ (fu : Nat) (p1 : Nat) (c1 : Nat) (g1 : Nat → pS) (f1 : Nat) (H1 : Heap) (I1 : Nat → Int32) (F1 : Nat → Nat → Int32) (L : List Loc) (ls : Array Slot), f1 < fu → (c1 ≤ 30) → (pSc bt n f1 p1 c1 g1 = pScript bt n) → (n < p1 + f1) → (p1 ≤ n) → lv_has ls 2 [(0, .ref x)] → (TW G x ad I1 F1 H1) → (TX_ bt n I1 F1) → (PS bt n (.ok p1) I1) → (exI [6, 13, 14, 15, 16, 17, 18, 19, 20, 21, 23] I I1) → (mm_le P (mm_h H1)) → (I1 23 = nI c1) → (I1 6 = nI 0) → (I1 4 = nI k) → (eqx [22] F F1) → (∀ i, i < c1 → stR (F1 22) i (g1 i) ∧ stB (g1 i)) → va_S (mm_A (tw_M x ad) H) H H1 L → W p l e (mm_rm 22 1500 0 0) s m ([.ref x] : List Value).toArray below meth c H1 L 0 0 (MQ below (mm_Qc H (tw_M x ad) (mm_i (rsV S (pScript bt n)) (fun H2 => ∃ I2 F2, TW G x ad I2 F2 H2 ∧ RSr S k (pScript bt n) I I2 F F2))) ([.ref x] : List Value).toArray s 0 0 (mm_A (tw_M x ad) H)) (F0 m 14 ls []) := by
    intro fu; induction fu with
    | zero => intro p1 c1 g1 f1 H1 I1 F1 L ls hfu; exact absurd hfu (Nat.not_lt_zero _)
    | succ fu ih =>
      intro p1 c1 g1 f1 H1 I1 F1 L ls hfu hc1 hL1 hf1 hpn hl hT hX hP hxi hF hk23 hk6 hk4 he hst hS
      have ih_14 := ih
      have hbd_p1 := tk_bd (b := bt) (show p1 ≤ n from hP.1)
      refine lv_aload_n hx hb dX8_runScript_14 rfl (lv_at hl 0 rfl) ?_
      refine tw_geti 20 (v := nI 0) hx hb hts hown hKK hT (by decide) rfl (hP.2.1) (hts _ q2518) dX8_runScript_15 ?_
      refine mm_if_ne (tgt := 35) (by omega) hx hb dX8_runScript_18 (by decide) (fun c_18 => ?_) (fun c_18 => ?_)
      · exact absurd c_18 (by decide)
      · refine lv_aload_n hx hb dX8_runScript_21 rfl (lv_at hl 0 rfl) ?_
        refine tw_geti 18 (v := nI (tkK bt n p1)) hx hb hts hown hKK hT (by decide) rfl (hP.2.2.2.2.1) (hts _ q2516) dX8_runScript_22 ?_
        refine mm_if_eq (tgt := 35) (by omega) hx hb dX8_runScript_25 (by decide) (fun c_25 => ?_) (fun c_25 => ?_)
        · refine lv_aload_n hx hb dX8_runScript_35 rfl (lv_at hl 0 rfl) ?_
          refine mm_rv (va_runV (As := []) (rest := []) ⟨hx, hb, hml, hown, hts⟩ (t_endText l (c9 := 0) (o9 := 0) hT hP.2.1 (by decide) (fun z => absurd rfl z)) (cwV 0 hts (lw_V q2672 q2674 qs73 q164 q2675) rfl rfl rfl (by decide +kernel) ⟨Nat.le_of_ble_eq_true rfl, Nat.le_of_ble_eq_true rfl⟩) (mm_pV hKK (mm_rc hKK hT.2.1 mm_le.rf rfl)) rfl rfl hl.1 rfl (lv_room (Nat.le_of_ble_eq_true rfl)) dX8_runScript_36 ⟨Nat.le_of_ble_eq_true rfl, Nat.le_of_ble_eq_true rfl⟩) hS (mm_sS hS) (fun H_36 L_36 hB_36 hz_36 hq_36 hS => ?_)
          obtain ⟨I_36, hT, hx_36, hk13, hk14, hk15⟩ := hB_36
          have hxi := hxi.tr (hx_36.mono (by decide))
          have hF := hF.keep hq_36 hMP
          have hk23 := (hx_36 23 (by decide)).trans hk23
          have hk6 := (hx_36 6 (by decide)).trans hk6
          have hk4 := (hx_36 4 (by decide)).trans hk4
          have hP : PS bt n (.ok p1) I_36 := hP.cg (exI_cg hx_36)
          have hbd_p1 := tk_bd (b := bt) (show p1 ≤ n from hP.1)
          refine lv_aload_n hx hb dX8_runScript_39 rfl (lv_at hl 0 rfl) ?_
          refine tw_geti 20 (v := nI 0) hx hb hts hown hKK hT (by decide) rfl (hP.2.1) (hts _ q2518) dX8_runScript_40 ?_
          refine mm_if_le (tgt := 48) (by omega) hx hb dX8_runScript_43 (by decide) (fun c_43 => ?_) (fun c_43 => ?_)
          · refine lv_aload_n hx hb dX8_runScript_48 rfl (lv_at hl 0 rfl) ?_
            refine mm_rv (va_runV (As := []) (rest := []) ⟨hx, hb, hml, hown, hts⟩ (t_remember l hT hk4 hk8) (cwV 0 hts (lw_V q2697 q2699 qs77 q164 q2700) rfl rfl rfl (by decide +kernel) ⟨Nat.le_of_ble_eq_true rfl, Nat.le_of_ble_eq_true rfl⟩) (mm_pV hKK (mm_rc hKK hT.2.1 mm_le.rf rfl)) rfl rfl hl.1 rfl (lv_room (Nat.le_of_ble_eq_true rfl)) dX8_runScript_49 ⟨Nat.le_of_ble_eq_true rfl, Nat.le_of_ble_eq_true rfl⟩) hS (mm_sS hS) (fun H_49 L_49 hB_49 hz_49 hq_49 hS => ?_)
            obtain ⟨I_49, F_49, hT, ⟨hx_49, hx4_49⟩, he_49, h3c_49, h3d_49⟩ := hB_49
            have hk23 := (hx_49 23 (by decide)).trans hk23
            have hk6 := (hx_49 6 (by decide)).trans hk6
            have hk13 := (hx_49 13 (by decide)).trans hk13
            have hk14 := (hx_49 14 (by decide)).trans hk14
            have hk15 := (hx_49 15 (by decide)).trans hk15
            have hxi : exI [4, 6, 13, 14, 15, 16, 17, 18, 19, 20, 21, 23] I I_49 := (hxi.mono (by decide)).tr (hx_49.mono (by decide))
            have hR : TR (F_49 0) S := TRx he_49 (by decide) (TRx he (by decide) hR0)
            refine lv_iconst (v := nI 0) hx hb dX8_runScript_52 (by decide) ?_
            refine lv_istore_n (lv' := [(1, .int (nI 0)), (0, .ref x)]) hx hb dX8_runScript_53 rfl hl (by decide) rfl (fun ls hl => ?_)
            have lp_54 : ∀ (fu : Nat) (i1 : Nat) (S1 : sp_S) (H3 : Heap) (F3 : Nat → Nat → Int32) (L : List Loc) (ls : Array Slot), c1 - i1 < fu → (i1 ≤ c1) → (XI S1) → (exL g1 (c1 - i1) i1 S1 = exL g1 c1 0 S) → lv_has ls 2 [(1, .int (nI i1)), (0, .ref x)] → (TW G x ad I_49 F3 H3) → (eqx [0, 7, 11] F_49 F3) → (TR (F3 0) S1) → va_S (mm_A (tw_M x ad) H) H H3 L → W p l e (mm_rm 22 1500 0 0) s m ([.ref x] : List Value).toArray below meth c H3 L 0 0 (MQ below (mm_Qc H (tw_M x ad) (mm_i (rsV S (pScript bt n)) (fun H2 => ∃ I2 F2, TW G x ad I2 F2 H2 ∧ RSr S k (pScript bt n) I I2 F F2))) ([.ref x] : List Value).toArray s 0 0 (mm_A (tw_M x ad) H)) (F0 m 54 ls []) := by
              intro fu; induction fu with
              | zero => intro i1 S1 H3 F3 L ls hfu; exact absurd hfu (Nat.not_lt_zero _)
              | succ fu ih =>
                intro i1 S1 H3 F3 L ls hfu hi1 hXI1 hex hl hT he3 hR hS
                have ih_54 := ih
                have hW := hXI1.wf
                have hnv := hW.nv
                have hnn := hW.nn
                refine lv_iload_n hx hb dX8_runScript_54 rfl (lv_at hl 0 rfl) ?_
                refine lv_aload_n hx hb dX8_runScript_55 rfl (lv_at hl 1 rfl) ?_
                refine tw_geti 23 (v := nI c1) hx hb hts hown hKK hT (by decide) rfl (hk23) (hts _ q2521) dX8_runScript_56 ?_
                refine mm_icmp_ge (tgt := 76) (by omega) (by omega) hx hb dX8_runScript_59 (by decide) (fun c_59 => ?_) (fun c_59 => ?_)
                · refine lv_iload_n hx hb dX8_runScript_76 rfl (lv_at hl 0 rfl) ?_
                  exact mm_iret (v := nI i1) hx hb hr hlk hS (Nat.le_of_ble_eq_true rfl) (Nat.le_of_ble_eq_true rfl) (⟨by rw [(hL1.symm.trans (pSc_0 (by omega) c_25))]; show _ = some (Value.int (nI (exL g1 c1 0 S).1)); rw [hex.symm.trans (show exL g1 (c1 - i1) i1 S1 = (i1, S1) by rw [show c1 - i1 = 0 by omega]; rfl)], _, F3, hT, by rw [(hL1.symm.trans (pSc_0 (by omega) c_25))]; exact ⟨⟨hk6, hk13⟩, hk14, hk15.trans (if_pos rfl), hx4_49, hxi, (he.mono (by decide)).tr ((he_49.mono (by decide)).tr ((he3).mono (by decide))), fun j hj => (congrFun ((he3) 3 (by decide)) _).trans ((h3c_49 j hj).trans (congrFun (he 0 (by decide)) j)), fun j hj => (congrFun ((he3) 3 (by decide)) _).trans ((h3d_49 j hj).trans (congrFun (he 3 (by decide)) _)), by rw [hex.symm.trans (show exL g1 (c1 - i1) i1 S1 = (i1, S1) by rw [show c1 - i1 = 0 by omega]; rfl)]; exact hR⟩⟩) dX8_runScript_77
                · refine lv_aload_n hx hb dX8_runScript_62 rfl (lv_at hl 1 rfl) ?_
                  refine lv_iload_n hx hb dX8_runScript_63 rfl (lv_at hl 0 rfl) ?_
                  refine mm_ri (va_runV (As := [.int (nI i1)]) (rest := []) ⟨hx, hb, hml, hown, hts⟩ (t_execute l (S := S1) (X := g1 i1) hT hR hW hXI1 (by omega) (hst i1 (by omega)).2 (stR_cg (hst i1 (by omega)).1 (fun j hj => (congrFun (he3 22 (by decide)) j).trans (congrFun (he_49 22 (by decide)) j)))) (cwV 1 hts (lw_V q2701 q2703 qs78 q164 q2704) rfl rfl rfl (by decide +kernel) ⟨Nat.le_of_ble_eq_true rfl, Nat.le_of_ble_eq_true rfl⟩) (mm_pV hKK (mm_rc hKK hT.2.1 mm_le.rf rfl)) rfl rfl hl.1 rfl (lv_room (Nat.le_of_ble_eq_true rfl)) dX8_runScript_64 ⟨Nat.le_of_ble_eq_true rfl, Nat.le_of_ble_eq_true rfl⟩) hS (mm_sS hS) (fun H_64 L_64 hB_64 hz_64 hq_64 hS => ?_)
                  obtain ⟨F_64, hT, he_64, hR⟩ := hB_64
                  refine mm_ifeqB (tgt := 76) hx hb dX8_runScript_67 (by decide) (fun c_67 => ?_) (fun c_67 => ?_)
                  · refine lv_iload_n hx hb dX8_runScript_76 rfl (lv_at hl 0 rfl) ?_
                    exact mm_iret (v := nI i1) hx hb hr hlk hS (Nat.le_of_ble_eq_true rfl) (Nat.le_of_ble_eq_true rfl) (⟨by rw [(hL1.symm.trans (pSc_0 (by omega) c_25))]; show _ = some (Value.int (nI (exL g1 c1 0 S).1)); rw [hex.symm.trans (exL_n c_59 c_67)], _, F_64, hT, by rw [(hL1.symm.trans (pSc_0 (by omega) c_25))]; exact ⟨⟨hk6, hk13⟩, hk14, hk15.trans (if_pos rfl), hx4_49, hxi, (he.mono (by decide)).tr ((he_49.mono (by decide)).tr ((he3.tr he_64).mono (by decide))), fun j hj => (congrFun ((he3.tr he_64) 3 (by decide)) _).trans ((h3c_49 j hj).trans (congrFun (he 0 (by decide)) j)), fun j hj => (congrFun ((he3.tr he_64) 3 (by decide)) _).trans ((h3d_49 j hj).trans (congrFun (he 3 (by decide)) _)), by rw [hex.symm.trans (exL_n c_59 c_67)]; exact hR⟩⟩) dX8_runScript_77
                  · refine lv_iinc (v := nI (i1 + 1)) (lv' := [(1, .int (nI (i1 + 1))), (0, .ref x)]) hx hb dX8_runScript_70 hl (k := 0) rfl (nI_add _ _) (by decide) rfl (fun ls hl => ?_)
                    refine lv_goto (tgt := 54) hx hb dX8_runScript_73 (by decide) ?_
                    exact ih_54 (i1 + 1) ((ex1 S1 (g1 i1)).getD S1) H_64 F_64 _ _ (by omega) (by omega) (XI_getD hXI1) (by rw [← hex]; exact exL_s c_59 c_67) (lv_sub hl [0, 1] rfl) hT (he3.tr he_64) hR hS
            exact lp_54 _ 0 S H_49 F_49 _ _ (Nat.lt_succ_self _) (by omega) (hXI) (rfl) (lv_sub hl [0, 1] rfl) hT eqx.rf hR hS
          · exact absurd c_43 (by decide)
        · refine lv_aload_n hx hb dX8_runScript_28 rfl (lv_at hl 0 rfl) ?_
          refine mm_rv (va_runV (As := []) (rest := []) ⟨hx, hb, hml, hown, hts⟩ (t_parseStatement l (k9 := c1) hT hX hP hF hMP hk23 hc1) (cwV 0 hts (lw_V q2680 q2682 qs74 q164 q2683) rfl rfl rfl (by decide +kernel) ⟨Nat.le_of_ble_eq_true rfl, Nat.le_of_ble_eq_true rfl⟩) (mm_pV hKK (mm_rc hKK hT.2.1 mm_le.rf rfl)) rfl rfl hl.1 rfl (lv_room (Nat.le_of_ble_eq_true rfl)) dX8_runScript_29 ⟨Nat.le_of_ble_eq_true rfl, Nat.le_of_ble_eq_true rfl⟩) hS (mm_sS hS) (fun H_29 L_29 hB_29 hz_29 hq_29 hS => ?_)
          obtain ⟨I_29, F_29, hT, hx_29, he_29, hL_29⟩ := hB_29
          have hxi := hxi.tr (hx_29.mono (by decide))
          have hX : TX_ bt n I_29 F_29 := ⟨(hx_29 13 (by decide)).trans hX.1, hX.2.1, fun i hi => (congrFun (he_29 12 (by decide)) i).trans (hX.2.2 i hi)⟩
          have hF := hF.keep hq_29 hMP
          have hk6 := (hx_29 6 (by decide)).trans hk6
          have hk4 := (hx_29 4 (by decide)).trans hk4
          rcases hN_29 : pStm bt n p1 c1 with ⟨c_29, o_29⟩ | ⟨x_29, q_29⟩
          · rw [hN_29] at hL_29
            have hP : PS bt n (.error (c_29, o_29)) I_29 := hL_29
            have hce_88 := hP.1
            refine lv_goto (tgt := 14) hx hb dX8_runScript_32 (by decide) ?_
            refine lv_aload_n hx hb dX8_runScript_14 rfl (lv_at hl 0 rfl) ?_
            refine tw_geti 20 (v := nI c_29) hx hb hts hown hKK hT (by decide) rfl (hP.2.1) (hts _ q2518) dX8_runScript_15 ?_
            refine mm_if_ne (tgt := 35) (by omega) hx hb dX8_runScript_18 (by decide) (fun c_18 => ?_) (fun c_18 => ?_)
            · refine lv_aload_n hx hb dX8_runScript_35 rfl (lv_at hl 0 rfl) ?_
              refine mm_rv (va_runV (As := []) (rest := []) ⟨hx, hb, hml, hown, hts⟩ (t_endText l (c9 := c_29) (o9 := o_29) hT hP.2.1 hP.1.2 (fun _ => hP.2.2)) (cwV 0 hts (lw_V q2672 q2674 qs73 q164 q2675) rfl rfl rfl (by decide +kernel) ⟨Nat.le_of_ble_eq_true rfl, Nat.le_of_ble_eq_true rfl⟩) (mm_pV hKK (mm_rc hKK hT.2.1 mm_le.rf rfl)) rfl rfl hl.1 rfl (lv_room (Nat.le_of_ble_eq_true rfl)) dX8_runScript_36 ⟨Nat.le_of_ble_eq_true rfl, Nat.le_of_ble_eq_true rfl⟩) hS (mm_sS hS) (fun H_36 L_36 hB_36 hz_36 hq_36 hS => ?_)
              obtain ⟨I_36, hT, hx_36, hk13, hk14, hk15⟩ := hB_36
              have hxi := hxi.tr (hx_36.mono (by decide))
              have hF := hF.keep hq_36 hMP
              have hk6 := (hx_36 6 (by decide)).trans hk6
              have hk4 := (hx_36 4 (by decide)).trans hk4
              have hP : PS bt n (.error (c_29, o_29)) I_36 := hP.cg (exI_cg hx_36)
              have hce_89 := hP.1
              refine lv_aload_n hx hb dX8_runScript_39 rfl (lv_at hl 0 rfl) ?_
              refine tw_geti 20 (v := nI c_29) hx hb hts hown hKK hT (by decide) rfl (hP.2.1) (hts _ q2518) dX8_runScript_40 ?_
              refine mm_if_le (tgt := 48) (by omega) hx hb dX8_runScript_43 (by decide) (fun c_43 => ?_) (fun c_43 => ?_)
              · exact absurd c_43 (by omega)
              · refine lv_iconst (v := (-1)) hx hb dX8_runScript_46 (by decide) ?_
                exact mm_iret (v := (-1)) hx hb hr hlk hS (Nat.le_of_ble_eq_true rfl) (Nat.le_of_ble_eq_true rfl) (⟨by rw [(hL1.symm.trans (pSc_e (by omega) c_25 hN_29))]; rfl, _, F_29, hT, by rw [(hL1.symm.trans (pSc_e (by omega) c_25 hN_29))]; exact ⟨⟨hk6, hk13⟩, hk14, hk15.trans (if_neg (by omega)), hxi, he.tr he_29⟩⟩) dX8_runScript_47
            · exact absurd c_18 (by omega)
          · rw [hN_29] at hL_29
            obtain ⟨hP, hk23, hst_29, hod_29⟩ := hL_29
            have hbd_q_29 := tk_bd (b := bt) (show q_29 ≤ n from hP.1)
            refine lv_goto (tgt := 14) hx hb dX8_runScript_32 (by decide) ?_
            exact ih_14 q_29 (c1 + 1) (fun j => if j = c1 then x_29 else g1 j) (f1 - 1) H_29 I_29 F_29 _ _ (by omega) ((pStm_in hpn hN_29).2.2.2) (by rw [← hL1]; exact pSc_s (by omega) c_25 hN_29) (by have := (pStm_in hpn hN_29).2.1; omega) ((pStm_in hpn hN_29).2.2.1) (lv_sub hl [0] rfl) hT hX hP hxi hF hk23 hk6 hk4 (he.tr he_29) (stR_ext hst hod_29 hst_29 (pStm_in hpn hN_29).1) hS
  exact lp_14 _ 0 0 (fun _ => (4, 0, 0, 0)) (n + 1) H_11 I_11 F _ _ (Nat.lt_succ_self _) (by omega) (rfl) (by omega) (by omega) (lv_sub hl [0] rfl) hT hX hP hxi hF hk23 hk6 hk4 eqx.rf (fun i hi => absurd hi (Nat.not_lt_zero _)) hS
