/-! the twin: ancestors, forecasts (printed by tools/tw13.py) -/
set_option maxRecDepth 100000 in
theorem t_commonAncestor (l : Launch) {G : mm_G} {P : mm_H} {H : Heap} {x : Nat} {ad : Nat → Nat} {I : Nat → Int32} {F : Nat → Nat → Int32} {S : sp_S} {a b : Int32} (hT : TW G x ad I F H) (hR : TR (F 0) S) (hW : WF S) (hV : VT S) : Mt l yX8_commonAncestor (ws_ yX8_commonAncestor cX8_commonAncestor 5 (some .int)) 6 400 0 0 G P [.ref x, .int a, .int b] H (tw_M x ad) (mm_i (qv (inR a (s_nv S) && inR b (s_nv S)) (nI (caF S a.toNatClampNeg b.toNatClampNeg))) (fun H2 => TW G x ad (upd I 6 (ck (inR a (s_nv S) && inR b (s_nv S)) true true)) F H2)) := by
  refine Mt.of (by decide) (Nat.le_of_ble_eq_true rfl) (fun p e s m below meth c ls hx hb hr hlk hml hown hnm hts hKK hsH hl hS => ?_)
  have hl : lv_has ls 5 [(0, .ref x), (1, .int a), (2, .int b)] := hl
  have hR0 := hR
  have hMx : mm_A (tw_M x ad) H x := Or.inl (Or.inl rfl)
  have hMa : ∀ j, tw_isA j = true → mm_A (tw_M x ad) H (ad j) := fun j hj => Or.inl (Or.inr ⟨j, hj, rfl⟩)
  have hnv := hW.nv
  have hnn := hW.nn
  refine lv_aload_n hx hb dX8_commonAncestor_0 rfl (lv_at hl 0 rfl) ?_
  refine lv_aload_n hx hb dX8_commonAncestor_1 rfl (lv_at hl 0 rfl) ?_
  refine lv_iload_n hx hb dX8_commonAncestor_2 rfl (lv_at hl 1 rfl) ?_
  refine mm_rpu (va_runV (As := [.int a]) (rest := [.ref x]) ⟨hx, hb, hml, hown, hts⟩ (t_isVersion l hT hR hW) (cwV 1 hts (lw_V q2713 q2715 qs81 q164 q2716) rfl rfl rfl (by decide +kernel) ⟨Nat.le_of_ble_eq_true rfl, Nat.le_of_ble_eq_true rfl⟩) (mm_pV hKK (mm_rc hKK hT.2.1 mm_le.rf rfl)) rfl rfl hl.1 rfl (lv_room (Nat.le_of_ble_eq_true rfl)) dX8_commonAncestor_3 ⟨Nat.le_of_ble_eq_true rfl, Nat.le_of_ble_eq_true rfl⟩) hS (mm_s0 hS) (fun L_3 hS => ?_)
  refine mm_ifeqB (tgt := 21) hx hb dX8_commonAncestor_6 (by decide) (fun c_6 => ?_) (fun c_6 => ?_)
  · refine lv_iconst (v := nI 0) hx hb dX8_commonAncestor_21 (by decide) ?_
    refine mm_top (y := mm_b false) rfl ?_
    refine lv_iconst (v := nI 1) hx hb dX8_commonAncestor_22 (by decide) ?_
    refine mm_top (y := mm_b true) rfl ?_
    refine lv_iconst (v := nI 1) hx hb dX8_commonAncestor_23 (by decide) ?_
    refine mm_top (y := mm_b true) rfl ?_
    refine mm_ri (va_runV (As := [.int (mm_b false), .int (mm_b true), .int (mm_b true)]) (rest := []) ⟨hx, hb, hml, hown, hts⟩ (t_check l hT) (cwV 3 hts (lw_V q2841 q2843 qs110 q164 q2844) rfl rfl rfl (by decide +kernel) ⟨Nat.le_of_ble_eq_true rfl, Nat.le_of_ble_eq_true rfl⟩) (mm_pV hKK (mm_rc hKK hT.2.1 mm_le.rf rfl)) rfl rfl hl.1 rfl (lv_room (Nat.le_of_ble_eq_true rfl)) dX8_commonAncestor_24 ⟨Nat.le_of_ble_eq_true rfl, Nat.le_of_ble_eq_true rfl⟩) hS (mm_sS hS) (fun H_24 L_24 hT hz_24 hq_24 hS => ?_)
    refine mm_top (y := mm_b false) rfl ?_
    refine mm_ifneB (tgt := 32) hx hb dX8_commonAncestor_27 (by decide) (fun c_27 => ?_) (fun c_27 => ?_)
    · exact absurd c_27 (by decide)
    · refine lv_iconst (v := nI 0) hx hb dX8_commonAncestor_30 (by decide) ?_
      exact mm_iret (v := nI 0) hx hb hr hlk hS (Nat.le_of_ble_eq_true rfl) (Nat.le_of_ble_eq_true rfl) (⟨by rw [qv_f (by rw [c_6]; rfl)]; rfl, by rw [c_6]; exact hT⟩) dX8_commonAncestor_31
  · have hina := c_6
    obtain ⟨ja, hja, heja, hcja⟩ := inR_t hina
    rw [heja] at hl
    refine lv_aload_n hx hb dX8_commonAncestor_9 rfl (lv_at hl 0 rfl) ?_
    refine lv_iload_n hx hb dX8_commonAncestor_10 rfl (lv_at hl 2 rfl) ?_
    refine mm_rpu (va_runV (As := [.int b]) (rest := [.ref x]) ⟨hx, hb, hml, hown, hts⟩ (t_isVersion l hT hR hW) (cwV 1 hts (lw_V q2713 q2715 qs81 q164 q2716) rfl rfl rfl (by decide +kernel) ⟨Nat.le_of_ble_eq_true rfl, Nat.le_of_ble_eq_true rfl⟩) (mm_pV hKK (mm_rc hKK hT.2.1 mm_le.rf rfl)) rfl rfl hl.1 rfl (lv_room (Nat.le_of_ble_eq_true rfl)) dX8_commonAncestor_11 ⟨Nat.le_of_ble_eq_true rfl, Nat.le_of_ble_eq_true rfl⟩) hS (mm_s0 hS) (fun L_11 hS => ?_)
    refine mm_ifeqB (tgt := 21) hx hb dX8_commonAncestor_14 (by decide) (fun c_14 => ?_) (fun c_14 => ?_)
    · refine lv_iconst (v := nI 0) hx hb dX8_commonAncestor_21 (by decide) ?_
      refine mm_top (y := mm_b false) rfl ?_
      refine lv_iconst (v := nI 1) hx hb dX8_commonAncestor_22 (by decide) ?_
      refine mm_top (y := mm_b true) rfl ?_
      refine lv_iconst (v := nI 1) hx hb dX8_commonAncestor_23 (by decide) ?_
      refine mm_top (y := mm_b true) rfl ?_
      refine mm_ri (va_runV (As := [.int (mm_b false), .int (mm_b true), .int (mm_b true)]) (rest := []) ⟨hx, hb, hml, hown, hts⟩ (t_check l hT) (cwV 3 hts (lw_V q2841 q2843 qs110 q164 q2844) rfl rfl rfl (by decide +kernel) ⟨Nat.le_of_ble_eq_true rfl, Nat.le_of_ble_eq_true rfl⟩) (mm_pV hKK (mm_rc hKK hT.2.1 mm_le.rf rfl)) rfl rfl hl.1 rfl (lv_room (Nat.le_of_ble_eq_true rfl)) dX8_commonAncestor_24 ⟨Nat.le_of_ble_eq_true rfl, Nat.le_of_ble_eq_true rfl⟩) hS (mm_sS hS) (fun H_24 L_24 hT hz_24 hq_24 hS => ?_)
      refine mm_top (y := mm_b false) rfl ?_
      refine mm_ifneB (tgt := 32) hx hb dX8_commonAncestor_27 (by decide) (fun c_27 => ?_) (fun c_27 => ?_)
      · exact absurd c_27 (by decide)
      · refine lv_iconst (v := nI 0) hx hb dX8_commonAncestor_30 (by decide) ?_
        exact mm_iret (v := nI 0) hx hb hr hlk hS (Nat.le_of_ble_eq_true rfl) (Nat.le_of_ble_eq_true rfl) (⟨by rw [qv_f (by rw [hina, c_14]; rfl)]; rfl, by rw [hina, c_14]; exact hT⟩) dX8_commonAncestor_31
    · have hinb := c_14
      obtain ⟨jb, hjb, hejb, hcjb⟩ := inR_t hinb
      rw [hejb] at hl
      refine lv_iconst (v := nI 1) hx hb dX8_commonAncestor_17 (by decide) ?_
      refine mm_top (y := mm_b true) rfl ?_
      refine lv_goto (tgt := 22) hx hb dX8_commonAncestor_18 (by decide) ?_
      refine lv_iconst (v := nI 1) hx hb dX8_commonAncestor_22 (by decide) ?_
      refine mm_top (y := mm_b true) rfl ?_
      refine lv_iconst (v := nI 1) hx hb dX8_commonAncestor_23 (by decide) ?_
      refine mm_top (y := mm_b true) rfl ?_
      refine mm_ri (va_runV (As := [.int (mm_b true), .int (mm_b true), .int (mm_b true)]) (rest := []) ⟨hx, hb, hml, hown, hts⟩ (t_check l hT) (cwV 3 hts (lw_V q2841 q2843 qs110 q164 q2844) rfl rfl rfl (by decide +kernel) ⟨Nat.le_of_ble_eq_true rfl, Nat.le_of_ble_eq_true rfl⟩) (mm_pV hKK (mm_rc hKK hT.2.1 mm_le.rf rfl)) rfl rfl hl.1 rfl (lv_room (Nat.le_of_ble_eq_true rfl)) dX8_commonAncestor_24 ⟨Nat.le_of_ble_eq_true rfl, Nat.le_of_ble_eq_true rfl⟩) hS (mm_sS hS) (fun H_24 L_24 hT hz_24 hq_24 hS => ?_)
      refine mm_top (y := mm_b true) rfl ?_
      refine mm_ifneB (tgt := 32) hx hb dX8_commonAncestor_27 (by decide) (fun c_27 => ?_) (fun c_27 => ?_)
      · refine lv_iload_n hx hb dX8_commonAncestor_32 rfl (lv_at hl 1 rfl) ?_
        refine lv_istore_n (lv' := [(3, .int (nI ja)), (0, .ref x), (1, .int (nI ja)), (2, .int (nI jb))]) hx hb dX8_commonAncestor_33 rfl hl (by decide) rfl (fun ls hl => ?_)
        refine lv_iload_n hx hb dX8_commonAncestor_34 rfl (lv_at hl 3 rfl) ?_
        refine lv_istore (lv' := [(4, .int (nI jb)), (3, .int (nI ja)), (0, .ref x), (1, .int (nI ja)), (2, .int (nI jb))]) hx hb dX8_commonAncestor_35 hl (by decide) rfl (fun ls hl => ?_)
        have lp_37 : ∀ (fu : Nat) (a2 : Nat) (b2 : Nat)  (L : List Loc) (ls : Array Slot), a2 + b2 < fu → (a2 < s_nv S) → (b2 < s_nv S) → (∀ u, (anc S u a2 ∧ anc S u b2) ↔ (anc S u ja ∧ anc S u jb)) → lv_has ls 5 [(3, .int (nI a2)), (4, .int (nI b2)), (0, .ref x), (1, .int (nI ja)), (2, .int (nI jb))] → va_S (mm_A (tw_M x ad) H) H H_24 L → W p l e (mm_rm 6 400 0 0) s m ([.ref x, .int a, .int b] : List Value).toArray below meth c H_24 L 0 0 (MQ below (mm_Qc H (tw_M x ad) (mm_i (qv (inR a (s_nv S) && inR b (s_nv S)) (nI (caF S a.toNatClampNeg b.toNatClampNeg))) (fun H2 => TW G x ad (upd I 6 (ck (inR a (s_nv S) && inR b (s_nv S)) true true)) F H2))) ([.ref x, .int a, .int b] : List Value).toArray s 0 0 (mm_A (tw_M x ad) H)) (F0 m 37 ls []) := by
          intro fu; induction fu with
          | zero => intro a2 b2 L ls hfu; exact absurd hfu (Nat.not_lt_zero _)
          | succ fu ih =>
            intro a2 b2 L ls hfu ha2 hb2 hca hl  hS
            have ih_37 := ih
            refine lv_iload_n hx hb dX8_commonAncestor_37 rfl (lv_at hl 0 rfl) ?_
            refine lv_iload hx hb dX8_commonAncestor_38 (lv_at hl 1 rfl) ?_
            refine mm_icmp_eq (tgt := 89) (by omega) (by omega) hx hb dX8_commonAncestor_40 (by decide) (fun c_40 => ?_) (fun c_40 => ?_)
            · refine lv_iload_n hx hb dX8_commonAncestor_89 rfl (lv_at hl 0 rfl) ?_
              exact mm_iret (v := nI a2) hx hb hr hlk hS (Nat.le_of_ble_eq_true rfl) (Nat.le_of_ble_eq_true rfl) (⟨by rw [qv_t (by rw [hina, hinb]; rfl), hcja, hcjb, ← caF_eq hW hV hja hjb (g := a2) (by rw [← c_40] at hca; exact hca)], by rw [hina, hinb]; exact hT⟩) dX8_commonAncestor_90
            · have hda := dep_le S a2
              have hdb := dep_le S b2
              refine lv_aload_n hx hb dX8_commonAncestor_43 rfl (lv_at hl 2 rfl) ?_
              refine lv_iload_n hx hb dX8_commonAncestor_44 rfl (lv_at hl 0 rfl) ?_
              refine mm_rpu (va_runV (As := [.int (nI a2)]) (rest := []) ⟨hx, hb, hml, hown, hts⟩ (t_depth l hT hR hW (by first | assumption | omega)) (cwV 1 hts (lw_V q2853 q2855 qs111 q164 q2856) rfl rfl rfl (by decide +kernel) ⟨Nat.le_of_ble_eq_true rfl, Nat.le_of_ble_eq_true rfl⟩) (mm_pV hKK (mm_rc hKK hT.2.1 mm_le.rf rfl)) rfl rfl hl.1 rfl (lv_room (Nat.le_of_ble_eq_true rfl)) dX8_commonAncestor_45 ⟨Nat.le_of_ble_eq_true rfl, Nat.le_of_ble_eq_true rfl⟩) hS (mm_s0 hS) (fun L_45 hS => ?_)
              refine lv_aload_n hx hb dX8_commonAncestor_48 rfl (lv_at hl 2 rfl) ?_
              refine lv_iload hx hb dX8_commonAncestor_49 (lv_at hl 1 rfl) ?_
              refine mm_rpu (va_runV (As := [.int (nI b2)]) (rest := [.int (nI (dep S a2))]) ⟨hx, hb, hml, hown, hts⟩ (t_depth l hT hR hW (by first | assumption | omega)) (cwV 1 hts (lw_V q2853 q2855 qs111 q164 q2856) rfl rfl rfl (by decide +kernel) ⟨Nat.le_of_ble_eq_true rfl, Nat.le_of_ble_eq_true rfl⟩) (mm_pV hKK (mm_rc hKK hT.2.1 mm_le.rf rfl)) rfl rfl hl.1 rfl (lv_room (Nat.le_of_ble_eq_true rfl)) dX8_commonAncestor_51 ⟨Nat.le_of_ble_eq_true rfl, Nat.le_of_ble_eq_true rfl⟩) hS (mm_s0 hS) (fun L_51 hS => ?_)
              refine mm_icmp_lt (tgt := 72) (by omega) (by omega) hx hb dX8_commonAncestor_54 (by decide) (fun c_54 => ?_) (fun c_54 => ?_)
              · obtain ⟨p9, hp9, hp8, hst⟩ := ca_twin hW hV hb2 ha2 (Ne.symm c_40) (by omega)
                refine lv_aload_n hx hb dX8_commonAncestor_72 rfl (lv_at hl 2 rfl) ?_
                refine tw_geta 0 hx hb hts hown hKK hT rfl rfl (hts _ q2498) dX8_commonAncestor_73 ?_
                refine lv_iload hx hb dX8_commonAncestor_76 (lv_at hl 1 rfl) ?_
                refine mm_rpu (va_runS (As := [.int (nI b2)]) (rest := [.ref (ad 0)]) ⟨hx, hb, hml, hown, hts⟩ (t_v l ) (va_cwS 1 hts (lw_S q2478 q2479 q164 q2480) rfl rfl rfl (by decide +kernel) ⟨Nat.le_of_ble_eq_true rfl, Nat.le_of_ble_eq_true rfl⟩) (mm_pS hKK) rfl rfl hl.1 rfl (lv_room (Nat.le_of_ble_eq_true rfl)) dX8_commonAncestor_78 ⟨Nat.le_of_ble_eq_true rfl, Nat.le_of_ble_eq_true rfl⟩) hS (mm_s0 hS) (fun L_78 hS => ?_)
                refine lv_iconst (v := nI 3) hx hb dX8_commonAncestor_81 (by decide) ?_
                refine mm_iadd hx hb dX8_commonAncestor_82 ?_
                refine mm_iald (k := (10 + 6 * b2 + 3)) hx hb hKK (hT.2.2 0 rfl) mm_le.rf (by show _ < 4210; omega) (by decide) dX8_commonAncestor_83 ?_
                refine mm_top (y := nI p9) ((hR.par hb2).trans (oI_some hp9)) ?_
                refine lv_istore (lv' := [(4, .int (nI p9)), (3, .int (nI a2)), (0, .ref x), (1, .int (nI ja)), (2, .int (nI jb))]) hx hb dX8_commonAncestor_84 hl (by decide) rfl (fun ls hl => ?_)
                refine lv_goto (tgt := 37) hx hb dX8_commonAncestor_86 (by decide) ?_
                exact ih_37 a2 p9 _ _ (by omega) (by omega) (by omega) (fun u => (and_sw (hst u)).trans (hca u)) (lv_sub hl [1, 0, 2, 3, 4] rfl)  hS
              · obtain ⟨p9, hp9, hp8, hst⟩ := ca_twin hW hV ha2 hb2 c_40 (by omega)
                refine lv_aload_n hx hb dX8_commonAncestor_57 rfl (lv_at hl 2 rfl) ?_
                refine tw_geta 0 hx hb hts hown hKK hT rfl rfl (hts _ q2498) dX8_commonAncestor_58 ?_
                refine lv_iload_n hx hb dX8_commonAncestor_61 rfl (lv_at hl 0 rfl) ?_
                refine mm_rpu (va_runS (As := [.int (nI a2)]) (rest := [.ref (ad 0)]) ⟨hx, hb, hml, hown, hts⟩ (t_v l ) (va_cwS 1 hts (lw_S q2478 q2479 q164 q2480) rfl rfl rfl (by decide +kernel) ⟨Nat.le_of_ble_eq_true rfl, Nat.le_of_ble_eq_true rfl⟩) (mm_pS hKK) rfl rfl hl.1 rfl (lv_room (Nat.le_of_ble_eq_true rfl)) dX8_commonAncestor_62 ⟨Nat.le_of_ble_eq_true rfl, Nat.le_of_ble_eq_true rfl⟩) hS (mm_s0 hS) (fun L_62 hS => ?_)
                refine lv_iconst (v := nI 3) hx hb dX8_commonAncestor_65 (by decide) ?_
                refine mm_iadd hx hb dX8_commonAncestor_66 ?_
                refine mm_iald (k := (10 + 6 * a2 + 3)) hx hb hKK (hT.2.2 0 rfl) mm_le.rf (by show _ < 4210; omega) (by decide) dX8_commonAncestor_67 ?_
                refine mm_top (y := nI p9) ((hR.par ha2).trans (oI_some hp9)) ?_
                refine lv_istore_n (lv' := [(3, .int (nI p9)), (4, .int (nI b2)), (0, .ref x), (1, .int (nI ja)), (2, .int (nI jb))]) hx hb dX8_commonAncestor_68 rfl hl (by decide) rfl (fun ls hl => ?_)
                refine lv_goto (tgt := 37) hx hb dX8_commonAncestor_69 (by decide) ?_
                exact ih_37 p9 b2 _ _ (by omega) (by omega) (by omega) (fun u => (hst u).trans (hca u)) (lv_sub hl [0, 1, 2, 3, 4] rfl)  hS
        exact lp_37 _ ja jb _ _ (Nat.lt_succ_self _) (hja) (hjb) (fun u => Iff.rfl) (lv_sub hl [1, 0, 2, 3, 4] rfl)  hS
      · exact absurd c_27 (by decide)
set_option maxRecDepth 100000 in
theorem t_nodesForSet (l : Launch) {G : mm_G} {P : mm_H} {H : Heap} {x : Nat} {ad : Nat → Nat} {I : Nat → Int32} {F : Nat → Nat → Int32} {S : sp_S} {a b v : Int32} (hT : TW G x ad I F H) (hR : TR (F 0) S) (hW : WF S) : Mt l yX8_nodesForSet (ws_ yX8_nodesForSet cX8_nodesForSet 6 (some .int)) 6 400 0 0 G P [.ref x, .int a, .int b, .int v] H (tw_M x ad) (mm_i (qv (fcs S a b v) (if s_els S a.toNatClampNeg b.toNatClampNeg = v then nI 0 else nI (hf (s_len S a.toNatClampNeg)))) (fun H2 => TW G x ad (upd I 6 (ck (hasE S a b) (inV v) (fcs S a b v))) F H2)) := by
  refine Mt.of (by decide) (Nat.le_of_ble_eq_true rfl) (fun p e s m below meth c ls hx hb hr hlk hml hown hnm hts hKK hsH hl hS => ?_)
  have hl : lv_has ls 6 [(0, .ref x), (1, .int a), (2, .int b), (3, .int v)] := hl
  have hR0 := hR
  have hMx : mm_A (tw_M x ad) H x := Or.inl (Or.inl rfl)
  have hMa : ∀ j, tw_isA j = true → mm_A (tw_M x ad) H (ad j) := fun j hj => Or.inl (Or.inr ⟨j, hj, rfl⟩)
  have hnv := hW.nv
  have hnn := hW.nn
  refine lv_aload_n hx hb dX8_nodesForSet_0 rfl (lv_at hl 0 rfl) ?_
  refine lv_iload_n hx hb dX8_nodesForSet_1 rfl (lv_at hl 1 rfl) ?_
  refine lv_iload_n hx hb dX8_nodesForSet_2 rfl (lv_at hl 2 rfl) ?_
  refine mm_rpu (va_runV (As := [.int a, .int b]) (rest := []) ⟨hx, hb, hml, hown, hts⟩ (t_hasElement l hT hR hW) (cwV 2 hts (lw_V q2889 q2891 qs114 q164 q2892) rfl rfl rfl (by decide +kernel) ⟨Nat.le_of_ble_eq_true rfl, Nat.le_of_ble_eq_true rfl⟩) (mm_pV hKK (mm_rc hKK hT.2.1 mm_le.rf rfl)) rfl rfl hl.1 rfl (lv_room (Nat.le_of_ble_eq_true rfl)) dX8_nodesForSet_3 ⟨Nat.le_of_ble_eq_true rfl, Nat.le_of_ble_eq_true rfl⟩) hS (mm_s0 hS) (fun L_3 hS => ?_)
  refine lv_istore (lv' := [(4, .int (mm_b (hasE S a b))), (0, .ref x), (1, .int a), (2, .int b), (3, .int v)]) hx hb dX8_nodesForSet_6 hl (by decide) rfl (fun ls hl => ?_)
  refine lv_iload_n hx hb dX8_nodesForSet_8 rfl (lv_at hl 4 rfl) ?_
  refine lv_i2l (v := v.toInt64) hx hb dX8_nodesForSet_9 rfl ?_
  refine lv_ldc2 (v := (-999)) hx hb hown (hts _ q3005) dX8_nodesForSet_10 ?_
  refine lv_ldc2 (v := 999) hx hb hown (hts _ q3006) dX8_nodesForSet_13 ?_
  refine mm_rpu (va_runS (As := [.long v.toInt64, .long ((-999)), .long 999]) (rest := []) ⟨hx, hb, hml, hown, hts⟩ (t_isWithin l ) (va_cwS 3 hts (lw_S q2599 q2600 q164 q2601) rfl rfl rfl (by decide +kernel) ⟨Nat.le_of_ble_eq_true rfl, Nat.le_of_ble_eq_true rfl⟩) (mm_pS hKK) rfl rfl hl.1 rfl (lv_room (Nat.le_of_ble_eq_true rfl)) dX8_nodesForSet_16 ⟨Nat.le_of_ble_eq_true rfl, Nat.le_of_ble_eq_true rfl⟩) hS (mm_s0 hS) (fun L_16 hS => ?_)
  refine mm_top (y := mm_b (inV v)) (congrArg mm_b (w_inV v)) ?_
  refine lv_istore (lv' := [(5, .int (mm_b (inV v))), (4, .int (mm_b (hasE S a b))), (0, .ref x), (1, .int a), (2, .int b), (3, .int v)]) hx hb dX8_nodesForSet_19 hl (by decide) rfl (fun ls hl => ?_)
  refine lv_aload_n hx hb dX8_nodesForSet_21 rfl (lv_at hl 2 rfl) ?_
  refine lv_iload hx hb dX8_nodesForSet_22 (lv_at hl 1 rfl) ?_
  refine lv_iload hx hb dX8_nodesForSet_24 (lv_at hl 0 rfl) ?_
  refine lv_iload hx hb dX8_nodesForSet_26 (lv_at hl 1 rfl) ?_
  refine mm_ifeqB (tgt := 48) hx hb dX8_nodesForSet_28 (by decide) (fun c_28 => ?_) (fun c_28 => ?_)
  · refine lv_iconst (v := nI 0) hx hb dX8_nodesForSet_48 (by decide) ?_
    refine mm_top (y := mm_b false) rfl ?_
    refine mm_ri (va_runV (As := [.int (mm_b (hasE S a b)), .int (mm_b (inV v)), .int (mm_b false)]) (rest := []) ⟨hx, hb, hml, hown, hts⟩ (t_check l hT) (cwV 3 hts (lw_V q2841 q2843 qs110 q164 q2844) rfl rfl rfl (by decide +kernel) ⟨Nat.le_of_ble_eq_true rfl, Nat.le_of_ble_eq_true rfl⟩) (mm_pV hKK (mm_rc hKK hT.2.1 mm_le.rf rfl)) rfl rfl hl.1 rfl (lv_room (Nat.le_of_ble_eq_true rfl)) dX8_nodesForSet_49 ⟨Nat.le_of_ble_eq_true rfl, Nat.le_of_ble_eq_true rfl⟩) hS (mm_sS hS) (fun H_49 L_49 hT hz_49 hq_49 hS => ?_)
    have h3 : fcs S a b v = false := by unfold fcs; rw [c_28, Bool.false_and, Bool.false_and]
    refine mm_top (y := mm_b false) (by rw [Bool.and_false]) ?_
    refine mm_ifneB (tgt := 57) hx hb dX8_nodesForSet_52 (by decide) (fun c_52 => ?_) (fun c_52 => ?_)
    · exact absurd c_52 (by decide)
    · refine lv_iconst (v := nI 0) hx hb dX8_nodesForSet_55 (by decide) ?_
      exact mm_iret (v := nI 0) hx hb hr hlk hS (Nat.le_of_ble_eq_true rfl) (Nat.le_of_ble_eq_true rfl) (⟨by rw [qv_f h3]; rfl, by rw [h3]; exact hT⟩) dX8_nodesForSet_56
  · have hina := hasE_in c_28
    obtain ⟨ja, hja, heja, hcja⟩ := inR_t hina
    have hl : lv_has ls 6 [(5, .int (mm_b (inV v))), (4, .int (mm_b (hasE S a b))), (0, .ref x), (1, .int (nI ja)), (2, .int b), (3, .int v)] := by simpa only [heja] using hl
    refine lv_iload hx hb dX8_nodesForSet_31 (lv_at hl 0 rfl) ?_
    refine mm_ifeqB (tgt := 48) hx hb dX8_nodesForSet_33 (by decide) (fun c_33 => ?_) (fun c_33 => ?_)
    · refine lv_iconst (v := nI 0) hx hb dX8_nodesForSet_48 (by decide) ?_
      refine mm_top (y := mm_b false) rfl ?_
      refine mm_ri (va_runV (As := [.int (mm_b (hasE S a b)), .int (mm_b (inV v)), .int (mm_b false)]) (rest := []) ⟨hx, hb, hml, hown, hts⟩ (t_check l hT) (cwV 3 hts (lw_V q2841 q2843 qs110 q164 q2844) rfl rfl rfl (by decide +kernel) ⟨Nat.le_of_ble_eq_true rfl, Nat.le_of_ble_eq_true rfl⟩) (mm_pV hKK (mm_rc hKK hT.2.1 mm_le.rf rfl)) rfl rfl hl.1 rfl (lv_room (Nat.le_of_ble_eq_true rfl)) dX8_nodesForSet_49 ⟨Nat.le_of_ble_eq_true rfl, Nat.le_of_ble_eq_true rfl⟩) hS (mm_sS hS) (fun H_49 L_49 hT hz_49 hq_49 hS => ?_)
      have h3 : fcs S a b v = false := by unfold fcs; rw [c_33, Bool.and_false, Bool.false_and]
      refine mm_top (y := mm_b false) (by rw [Bool.and_false]) ?_
      refine mm_ifneB (tgt := 57) hx hb dX8_nodesForSet_52 (by decide) (fun c_52 => ?_) (fun c_52 => ?_)
      · exact absurd c_52 (by decide)
      · refine lv_iconst (v := nI 0) hx hb dX8_nodesForSet_55 (by decide) ?_
        exact mm_iret (v := nI 0) hx hb hr hlk hS (Nat.le_of_ble_eq_true rfl) (Nat.le_of_ble_eq_true rfl) (⟨by rw [qv_f h3]; rfl, by rw [h3]; exact hT⟩) dX8_nodesForSet_56
    · refine lv_aload_n hx hb dX8_nodesForSet_36 rfl (lv_at hl 2 rfl) ?_
      refine lv_iload_n hx hb dX8_nodesForSet_37 rfl (lv_at hl 3 rfl) ?_
      refine mm_rpu (va_runV (As := [.int (nI ja)]) (rest := [.int (mm_b (inV v)), .int (mm_b (hasE S a b)), .ref x]) ⟨hx, hb, hml, hown, hts⟩ (t_isGone l hT hR hW (by first | assumption | omega)) (cwV 1 hts (lw_V q2717 q2719 qs82 q164 q2720) rfl rfl rfl (by decide +kernel) ⟨Nat.le_of_ble_eq_true rfl, Nat.le_of_ble_eq_true rfl⟩) (mm_pV hKK (mm_rc hKK hT.2.1 mm_le.rf rfl)) rfl rfl hl.1 rfl (lv_room (Nat.le_of_ble_eq_true rfl)) dX8_nodesForSet_38 ⟨Nat.le_of_ble_eq_true rfl, Nat.le_of_ble_eq_true rfl⟩) hS (mm_s0 hS) (fun L_38 hS => ?_)
      refine mm_ifneB (tgt := 48) hx hb dX8_nodesForSet_41 (by decide) (fun c_41 => ?_) (fun c_41 => ?_)
      · refine lv_iconst (v := nI 0) hx hb dX8_nodesForSet_48 (by decide) ?_
        refine mm_top (y := mm_b false) rfl ?_
        refine mm_ri (va_runV (As := [.int (mm_b (hasE S a b)), .int (mm_b (inV v)), .int (mm_b false)]) (rest := []) ⟨hx, hb, hml, hown, hts⟩ (t_check l hT) (cwV 3 hts (lw_V q2841 q2843 qs110 q164 q2844) rfl rfl rfl (by decide +kernel) ⟨Nat.le_of_ble_eq_true rfl, Nat.le_of_ble_eq_true rfl⟩) (mm_pV hKK (mm_rc hKK hT.2.1 mm_le.rf rfl)) rfl rfl hl.1 rfl (lv_room (Nat.le_of_ble_eq_true rfl)) dX8_nodesForSet_49 ⟨Nat.le_of_ble_eq_true rfl, Nat.le_of_ble_eq_true rfl⟩) hS (mm_sS hS) (fun H_49 L_49 hT hz_49 hq_49 hS => ?_)
        have h3 : fcs S a b v = false := by unfold fcs; rw [c_28, c_33, hcja, c_41]; rfl
        refine mm_top (y := mm_b false) (by rw [Bool.and_false]) ?_
        refine mm_ifneB (tgt := 57) hx hb dX8_nodesForSet_52 (by decide) (fun c_52 => ?_) (fun c_52 => ?_)
        · exact absurd c_52 (by decide)
        · refine lv_iconst (v := nI 0) hx hb dX8_nodesForSet_55 (by decide) ?_
          exact mm_iret (v := nI 0) hx hb hr hlk hS (Nat.le_of_ble_eq_true rfl) (Nat.le_of_ble_eq_true rfl) (⟨by rw [qv_f h3]; rfl, by rw [h3]; exact hT⟩) dX8_nodesForSet_56
      · refine lv_iconst (v := nI 1) hx hb dX8_nodesForSet_44 (by decide) ?_
        refine mm_top (y := mm_b true) rfl ?_
        refine lv_goto (tgt := 49) hx hb dX8_nodesForSet_45 (by decide) ?_
        refine mm_ri (va_runV (As := [.int (mm_b (hasE S a b)), .int (mm_b (inV v)), .int (mm_b true)]) (rest := []) ⟨hx, hb, hml, hown, hts⟩ (t_check l hT) (cwV 3 hts (lw_V q2841 q2843 qs110 q164 q2844) rfl rfl rfl (by decide +kernel) ⟨Nat.le_of_ble_eq_true rfl, Nat.le_of_ble_eq_true rfl⟩) (mm_pV hKK (mm_rc hKK hT.2.1 mm_le.rf rfl)) rfl rfl hl.1 rfl (lv_room (Nat.le_of_ble_eq_true rfl)) dX8_nodesForSet_49 ⟨Nat.le_of_ble_eq_true rfl, Nat.le_of_ble_eq_true rfl⟩) hS (mm_sS hS) (fun H_49 L_49 hT hz_49 hq_49 hS => ?_)
        have h3 : fcs S a b v = true := by unfold fcs; rw [c_28, c_33, hcja, c_41]; rfl
        refine mm_top (y := mm_b true) (by rw [c_28, c_33]; rfl) ?_
        have hlj : isEl S a b = true := by unfold isEl; rw [c_28, hcja, c_41]; rfl
        obtain ⟨-, hrla, hinb⟩ := isEl_in hlj
        rw [hcja] at hrla hinb
        obtain ⟨jb, hjb, hejb, hcjb⟩ := inR_t hinb
        have hl : lv_has ls 6 [(5, .int (mm_b (inV v))), (4, .int (mm_b (hasE S a b))), (0, .ref x), (1, .int (nI ja)), (2, .int (nI jb)), (3, .int v)] := by simpa only [hejb] using hl
        have hlenj := hW.len hja
        refine mm_ifneB (tgt := 57) hx hb dX8_nodesForSet_52 (by decide) (fun c_52 => ?_) (fun c_52 => ?_)
        · refine lv_aload_n hx hb dX8_nodesForSet_57 rfl (lv_at hl 2 rfl) ?_
          refine lv_iload_n hx hb dX8_nodesForSet_58 rfl (lv_at hl 3 rfl) ?_
          refine lv_iload_n hx hb dX8_nodesForSet_59 rfl (lv_at hl 4 rfl) ?_
          refine mm_rpu (va_runV (As := [.int (nI ja), .int (nI jb)]) (rest := []) ⟨hx, hb, hml, hown, hts⟩ (t_element l hT hR hW (by first | assumption | omega) (by first | assumption | omega)) (cwV 2 hts (lw_V q2494 q2496 qs61 q164 q2497) rfl rfl rfl (by decide +kernel) ⟨Nat.le_of_ble_eq_true rfl, Nat.le_of_ble_eq_true rfl⟩) (mm_pV hKK (mm_rc hKK hT.2.1 mm_le.rf rfl)) rfl rfl hl.1 rfl (lv_room (Nat.le_of_ble_eq_true rfl)) dX8_nodesForSet_60 ⟨Nat.le_of_ble_eq_true rfl, Nat.le_of_ble_eq_true rfl⟩) hS (mm_s0 hS) (fun L_60 hS => ?_)
          refine lv_iload_n hx hb dX8_nodesForSet_63 rfl (lv_at hl 5 rfl) ?_
          refine lv_icmp_ne (tgt := 71) hx hb dX8_nodesForSet_64 (by decide) (fun c_64 => ?_) (fun c_64 => ?_)
          · refine lv_aload_n hx hb dX8_nodesForSet_71 rfl (lv_at hl 2 rfl) ?_
            refine lv_iload_n hx hb dX8_nodesForSet_72 rfl (lv_at hl 3 rfl) ?_
            refine mm_rpu (va_runV (As := [.int (nI ja)]) (rest := []) ⟨hx, hb, hml, hown, hts⟩ (t_heightOf l hT hR hW (by first | assumption | omega)) (cwV 1 hts (lw_V q2733 q2735 qs86 q164 q2736) rfl rfl rfl (by decide +kernel) ⟨Nat.le_of_ble_eq_true rfl, Nat.le_of_ble_eq_true rfl⟩) (mm_pV hKK (mm_rc hKK hT.2.1 mm_le.rf rfl)) rfl rfl hl.1 rfl (lv_room (Nat.le_of_ble_eq_true rfl)) dX8_nodesForSet_73 ⟨Nat.le_of_ble_eq_true rfl, Nat.le_of_ble_eq_true rfl⟩) hS (mm_s0 hS) (fun L_73 hS => ?_)
            exact mm_iret (v := nI (hf (s_len S ja))) hx hb hr hlk hS (Nat.le_of_ble_eq_true rfl) (Nat.le_of_ble_eq_true rfl) (⟨by rw [qv_t h3, hcja, hcjb, if_neg c_64], by rw [h3]; exact hT⟩) dX8_nodesForSet_76
          · refine lv_iconst (v := nI 0) hx hb dX8_nodesForSet_67 (by decide) ?_
            refine lv_goto (tgt := 76) hx hb dX8_nodesForSet_68 (by decide) ?_
            exact mm_iret (v := nI 0) hx hb hr hlk hS (Nat.le_of_ble_eq_true rfl) (Nat.le_of_ble_eq_true rfl) (⟨by rw [qv_t h3, hcja, hcjb, if_pos c_64], by rw [h3]; exact hT⟩) dX8_nodesForSet_76
        · exact absurd c_52 (by decide)
