/-! SmokedLetters, walked: printed by gen/xmain.py -/
set_option maxRecDepth 100000
abbrev rX0_back : Room := { frames := 2, cells := 0, slots := 0, locals := 81 }
set_option maxHeartbeats 4000000 in
theorem wX0_back (l : Launch) (g : GG) (ad : Nat → Nat) (S : XS) (a1 : Int32) (Sf : XS) (rf : Int32) (hf : fX0_back S a1 = some (Sf, rf)) : Met l yX0_back (ws_ yX0_back cX0_back 2 (some .int)) rX0_back (va_Pc [.ref (ad 0), .int a1] (fun Ux => PP g (WX g ad S) Ux.heap ∧ EV g Ux ∧ va_D (AX ad) (WX g ad S))) (va_Qi (fun y (_ : Unit) => y = rf) (fun _ t => PP g (WX g ad Sf) t.heap ∧ va_D (AX ad) (WX g ad Sf)) (AX ad)) 0 0 (AX ad) := by
  refine sm_st (by decide) ?_
  intro p e s m args below meth c hx hb hr hlocks hml hown hnm hts hv
  obtain ⟨hargs, hP, hE, hD⟩ := hv
  obtain ⟨hK, hN⟩ := id hE
  have hS : va_S (AX ad) s.heap s.heap [] := va_S.rf
  have hown : s.vm.findClass RX0 = some m.cls := hown
  refine sm_en _ (Nat.le_of_ble_eq_true rfl) hargs (fun ls hl => ?_)
  have hl : lv_has ls 2 [(0, .ref (ad 0)), (1, .int a1)] := hl
  generalize hQ : MQ below _ args s _ _ _ = Q
  unfold fX0_back at hf
  refine lv_iload_n hx hb dX0_back_0 rfl (lv_at hl 1 rfl) ?_
  refine lv_iconst (v := 0) hx hb dX0_back_1 (by decide) ?_
  refine lv_iconst (v := 1) hx hb dX0_back_2 (by decide) ?_
  refine vp_callSi (W.runS (As := [.int a1, .int 0, .int 1]) (rest := []) ⟨hx, hb, hml, hown, hts⟩ (wX0_in l a1 0 1 (fX0_in a1 0 1) rfl) (va_cwS 3 hts (lw_S q343 q344 q60 q345) rfl rfl rfl (by decide +kernel) ⟨Nat.le_of_ble_eq_true rfl, Nat.le_of_ble_eq_true rfl⟩) (sm_ps) rfl rfl hl.1 rfl (lv_room (Nat.le_of_ble_eq_true rfl)) dX0_back_3 ⟨Nat.le_of_ble_eq_true rfl, Nat.le_of_ble_eq_true rfl⟩) (fun r_2 er_1 => ?_)
  have er_1 := er_1.symm
  subst er_1
  refine lv_if_ne (tgt := 11) hx hb dX0_back_6 (by decide) (fun c_3 => ?_) (fun c_3 => ?_)
  · have hf := (if_neg c_3).symm.trans hf
    refine lv_aload_n hx hb dX0_back_11 rfl (lv_at hl 0 rfl) ?_
    refine va_get (D := (g.1, g.2.1)) (ci := 0) (v := .ref (ad 8)) (C := RX0) (T := TX0) (N := 20) hx hb hts in_X0 hown hK hP 0 rfl rfl 6 (by decide) (hts _ q276) (fun _ h9 => h9) rfl dX0_back_12 ?_
    refine lv_iload_n hx hb dX0_back_15 rfl (lv_at hl 1 rfl) ?_
    obtain ⟨hg, hf⟩ := sm_gd_e hf
    refine va_zald hx hb hK hP 8 2 rfl rfl (sm_in hg) dX0_back_16 ?_
    refine lv_if_ne (tgt := 23) hx hb dX0_back_17 (by decide) (fun c_4 => ?_) (fun c_4 => ?_)
    · have hf := (if_neg c_4).symm.trans hf
      refine lv_aload_n hx hb dX0_back_23 rfl (lv_at hl 0 rfl) ?_
      refine va_get (D := (g.1, g.2.1)) (ci := 0) (v := .ref (ad 29)) (C := RX0) (T := TX0) (N := 20) hx hb hts in_X0 hown hK hP 0 rfl rfl 1 (by decide) (hts _ q271) (fun _ h9 => h9) rfl dX0_back_24 ?_
      refine lv_aload_n hx hb dX0_back_27 rfl (lv_at hl 0 rfl) ?_
      refine va_get (D := (g.1, g.2.1)) (ci := 0) (v := .ref (ad 21)) (C := RX0) (T := TX0) (N := 20) hx hb hts in_X0 hown hK hP 0 rfl rfl 5 (by decide) (hts _ q275) (fun _ h9 => h9) rfl dX0_back_28 ?_
      refine lv_iload_n hx hb dX0_back_31 rfl (lv_at hl 1 rfl) ?_
      obtain ⟨hg, hf⟩ := sm_gd_e hf
      have hi_5 := sm_lt_in (sm_in hg)
      refine va_aldq hx hb hK hP 21 4 rfl rfl (sm_in hg) dX0_back_32 ?_
      obtain ⟨hg_6, hf⟩ := sm_gd_e hf
      obtain ⟨T_7, h_8, hf⟩ := sm_b1_e hf
      refine va_callv (va_runV (As := [.ref (ad (29 + 4 * (2 + a1.toNatClampNeg)))]) (rest := []) ⟨hx, hb, hml, hown, hts⟩ (wX2_copyOf l g (ai ad 0) (ai ad (2 + a1.toNatClampNeg)) (S.2.2.1 (2 + a1.toNatClampNeg)) (S.2.2.1 0)  T_7 h_8) (cwV 1 hts (lw_V q623 q624 q625 q62 q626) rfl rfl rfl (by decide +kernel) ⟨Nat.le_of_ble_eq_true rfl, Nat.le_of_ble_eq_true rfl⟩) (sm_pe hE (sm_pII (j := 0) (i := (2 + a1.toNatClampNeg)) (by decide) (sm_im hi_5) hP) (sm_dII (j := 0) (i := (2 + a1.toNatClampNeg)) (by decide) (sm_im hi_5) (of_decide_eq_true hg_6) (sm_DX.mp hD).1) (va_recv hK (sm_pII (j := 0) (i := (2 + a1.toNatClampNeg)) (by decide) (sm_im hi_5) hP) (ci := 2) (q0 := 0) rfl rfl)) rfl rfl hl.1 rfl (lv_room (Nat.le_of_ble_eq_true rfl)) dX0_back_33 ⟨Nat.le_of_ble_eq_true rfl, Nat.le_of_ble_eq_true rfl⟩) hS (fun q _ h => (sm_aII (j := 0) (i := (2 + a1.toNatClampNeg)) (by decide) (sm_im hi_5) q h)) (sm_aII (j := 0) (i := (2 + a1.toNatClampNeg)) (by decide) (sm_im hi_5)) (fun u t H locs ht hvm er_9 hB hz hk hS => ?_)
      rw [ht] at hB
      obtain ⟨S_11, eS_11, hf⟩ := sm_lt_e hf
      have hP : PP g (WX g ad S_11) H := by rw [eS_11]; exact sm_xiII (j := 0) (i0 := (2 + a1.toNatClampNeg)) (by decide) (sm_im hi_5) (of_decide_eq_true hg_6) (sm_DX.mp hD).1 hP hk hB.1
      have hD : va_D (AX ad) (WX g ad S_11) := by rw [eS_11]; exact sm_dX hD
      refine lv_aload_n hx hb dX0_back_36 rfl (lv_at hl 0 rfl) ?_
      refine lv_iconst (v := 0) hx hb dX0_back_37 (by decide) ?_
      refine va_put (D := (g.1, g.2.1)) (ci := 0) (v := .int 0) (ty := .int) (C := RX0) (T := TX0) (N := 20) hx hb hts in_X0 tyX0 tyX0_ok nmX0 hown hK hP hD hS 0 rfl rfl 4 (by decide) (hts _ q274) (fun _ h9 => h9) rfl (by decide +kernel) rfl rfl (Nat.le_of_ble_eq_true rfl) dX0_back_38 (fun H locs hP hD hS => ?_)
      obtain ⟨S_12, eS_12, hf⟩ := sm_lt_e hf
      have hP : PP g (WX g ad S_12) H := by rw [eS_12]; exact pxf4 hP
      have hD : va_D (AX ad) (WX g ad S_12) := by rw [eS_12]; exact dxf4 hD
      refine lv_aload_n hx hb dX0_back_41 rfl (lv_at hl 0 rfl) ?_
      refine va_get (D := (g.1, g.2.1)) (ci := 0) (v := .ref (ad 29)) (C := RX0) (T := TX0) (N := 20) hx hb hts in_X0 hown hK hP 0 rfl rfl 1 (by decide) (hts _ q271) (fun _ h9 => h9) rfl dX0_back_42 ?_
      refine va_getN (D := (g.1, g.2.1)) (ci := 2) (v := .int ((S_12.2.2.1 0).1 0)) (C := RX2) (T := TX2) (N := 7) hx hb hts in_X2 hown hK hP 29 rfl rfl 0 (by decide) (va_Nw.use rfl (hN _ q161 rfl)) (fun _ h9 => h9) rfl dX0_back_45 ?_
      have hf := Option.some.inj hf
      rw [← hQ]
      have hf := Prod.mk.inj hf
      exact W.iret (v := (S_12.2.2.1 0).1 0) hx hb hr (fun t ht hW => ⟨⟨_, (), rfl, hf.2, by rw [ht, ← hf.1]; exact hP, by rw [← hf.1]; exact hD⟩, hS.F ht⟩) hS.2.2 dX0_back_48
    · have hf := (if_pos c_4).symm.trans hf
      refine lv_bipush (v := (-2)) hx hb dX0_back_20 (by decide) ?_
      have hf := Option.some.inj hf
      rw [← hQ]
      have hf := Prod.mk.inj hf
      exact W.iret (v := (-2)) hx hb hr (fun t ht hW => ⟨⟨_, (), rfl, hf.2, by rw [ht, ← hf.1]; exact hP, by rw [← hf.1]; exact hD⟩, hS.F ht⟩) hS.2.2 dX0_back_22
  · have hf := (if_pos c_3).symm.trans hf
    refine lv_iconst (v := (-1)) hx hb dX0_back_9 (by decide) ?_
    have hf := Option.some.inj hf
    rw [← hQ]
    have hf := Prod.mk.inj hf
    exact W.iret (v := (-1)) hx hb hr (fun t ht hW => ⟨⟨_, (), rfl, hf.2, by rw [ht, ← hf.1]; exact hP, by rw [← hf.1]; exact hD⟩, hS.F ht⟩) hS.2.2 dX0_back_10
abbrev rX0_count : Room := { frames := 0, cells := 0, slots := 0, locals := 0 }
set_option maxHeartbeats 4000000 in
theorem wX0_count (l : Launch) (g : GG) (ad : Nat → Nat) (S : XS) (a1 : Int32) (rf : Int32) (hf : fX0_count S a1 = some rf) : Met l yX0_count (ws_ yX0_count cX0_count 2 (some .int)) rX0_count (va_Pc [.ref (ad 0), .int a1] (fun Ux => PP g (WX g ad S) Ux.heap ∧ EV g Ux)) (vp_Si (fun y => y = rf)) 0 0 (fun _ => False) := by
  refine sm_st (by decide) ?_
  intro p e s m args below meth c hx hb hr hlocks hml hown hnm hts hv
  obtain ⟨hargs, hP, hE⟩ := hv
  obtain ⟨hK, hN⟩ := id hE
  have hown : s.vm.findClass RX0 = some m.cls := hown
  refine sm_en _ (Nat.le_of_ble_eq_true rfl) hargs (fun ls hl => ?_)
  have hl : lv_has ls 2 [(0, .ref (ad 0)), (1, .int a1)] := hl
  generalize hQ : MQ below _ args s _ _ _ = Q
  unfold fX0_count at hf
  refine lv_iload_n hx hb dX0_count_0 rfl (lv_at hl 1 rfl) ?_
  by_cases c_1_0 : a1 = 0
  · have hf := (if_pos c_1_0).symm.trans hf
    refine lv_tableIn (tgt := 48) hx hb dX0_count_1 (by rw [c_1_0]; decide) (by rw [c_1_0]; decide) (by rw [c_1_0]; rfl) (by decide) ?_
    refine lv_aload_n hx hb dX0_count_48 rfl (lv_at hl 0 rfl) ?_
    refine va_get (D := (g.1, g.2.1)) (ci := 0) (v := .ref (ad 1)) (C := RX0) (T := TX0) (N := 20) hx hb hts in_X0 hown hK hP 0 rfl rfl 0 (by decide) (hts _ q269) (fun _ h9 => h9) rfl dX0_count_49 ?_
    refine va_getN (D := (g.1, g.2.1)) (ci := 1) (v := .ref (ad 2)) (C := RX1) (T := TX1) (N := 9) hx hb hts in_X1 hown hK hP 1 rfl rfl 0 (by decide) (va_Nw.use rfl (hN _ q101 rfl)) (fun _ h9 => h9) rfl dX0_count_52 ?_
    refine lv_iload_n hx hb dX0_count_55 rfl (lv_at hl 1 rfl) ?_
    obtain ⟨hg, hf⟩ := sm_gd_e hf
    refine va_iald hx hb hK hP 2 0 rfl rfl (sm_in hg) dX0_count_56 ?_
    have hf := Option.some.inj hf
    rw [← hQ]
    exact W.iret (v := S.2.2.2.2.1.2 0 a1.toNatClampNeg) hx hb hr (fun t ht hW => ⟨_, rfl, hf, ht⟩) (fun _ h => by cases h) dX0_count_57
  have hf := (if_neg c_1_0).symm.trans hf
  by_cases c_1_1 : a1 = 1
  · have hf := (if_pos c_1_1).symm.trans hf
    refine lv_tableIn (tgt := 48) hx hb dX0_count_1 (by rw [c_1_1]; decide) (by rw [c_1_1]; decide) (by rw [c_1_1]; rfl) (by decide) ?_
    refine lv_aload_n hx hb dX0_count_48 rfl (lv_at hl 0 rfl) ?_
    refine va_get (D := (g.1, g.2.1)) (ci := 0) (v := .ref (ad 1)) (C := RX0) (T := TX0) (N := 20) hx hb hts in_X0 hown hK hP 0 rfl rfl 0 (by decide) (hts _ q269) (fun _ h9 => h9) rfl dX0_count_49 ?_
    refine va_getN (D := (g.1, g.2.1)) (ci := 1) (v := .ref (ad 2)) (C := RX1) (T := TX1) (N := 9) hx hb hts in_X1 hown hK hP 1 rfl rfl 0 (by decide) (va_Nw.use rfl (hN _ q101 rfl)) (fun _ h9 => h9) rfl dX0_count_52 ?_
    refine lv_iload_n hx hb dX0_count_55 rfl (lv_at hl 1 rfl) ?_
    obtain ⟨hg, hf⟩ := sm_gd_e hf
    refine va_iald hx hb hK hP 2 0 rfl rfl (sm_in hg) dX0_count_56 ?_
    have hf := Option.some.inj hf
    rw [← hQ]
    exact W.iret (v := S.2.2.2.2.1.2 0 a1.toNatClampNeg) hx hb hr (fun t ht hW => ⟨_, rfl, hf, ht⟩) (fun _ h => by cases h) dX0_count_57
  have hf := (if_neg c_1_1).symm.trans hf
  by_cases c_1_2 : a1 = 2
  · have hf := (if_pos c_1_2).symm.trans hf
    refine lv_tableIn (tgt := 48) hx hb dX0_count_1 (by rw [c_1_2]; decide) (by rw [c_1_2]; decide) (by rw [c_1_2]; rfl) (by decide) ?_
    refine lv_aload_n hx hb dX0_count_48 rfl (lv_at hl 0 rfl) ?_
    refine va_get (D := (g.1, g.2.1)) (ci := 0) (v := .ref (ad 1)) (C := RX0) (T := TX0) (N := 20) hx hb hts in_X0 hown hK hP 0 rfl rfl 0 (by decide) (hts _ q269) (fun _ h9 => h9) rfl dX0_count_49 ?_
    refine va_getN (D := (g.1, g.2.1)) (ci := 1) (v := .ref (ad 2)) (C := RX1) (T := TX1) (N := 9) hx hb hts in_X1 hown hK hP 1 rfl rfl 0 (by decide) (va_Nw.use rfl (hN _ q101 rfl)) (fun _ h9 => h9) rfl dX0_count_52 ?_
    refine lv_iload_n hx hb dX0_count_55 rfl (lv_at hl 1 rfl) ?_
    obtain ⟨hg, hf⟩ := sm_gd_e hf
    refine va_iald hx hb hK hP 2 0 rfl rfl (sm_in hg) dX0_count_56 ?_
    have hf := Option.some.inj hf
    rw [← hQ]
    exact W.iret (v := S.2.2.2.2.1.2 0 a1.toNatClampNeg) hx hb hr (fun t ht hW => ⟨_, rfl, hf, ht⟩) (fun _ h => by cases h) dX0_count_57
  have hf := (if_neg c_1_2).symm.trans hf
  by_cases c_1_3 : a1 = 3
  · have hf := (if_pos c_1_3).symm.trans hf
    refine lv_tableIn (tgt := 58) hx hb dX0_count_1 (by rw [c_1_3]; decide) (by rw [c_1_3]; decide) (by rw [c_1_3]; rfl) (by decide) ?_
    refine lv_aload_n hx hb dX0_count_58 rfl (lv_at hl 0 rfl) ?_
    refine va_get (D := (g.1, g.2.1)) (ci := 0) (v := .ref (ad 1)) (C := RX0) (T := TX0) (N := 20) hx hb hts in_X0 hown hK hP 0 rfl rfl 0 (by decide) (hts _ q269) (fun _ h9 => h9) rfl dX0_count_59 ?_
    refine va_getN (D := (g.1, g.2.1)) (ci := 1) (v := .int (S.2.2.2.2.1.1 6)) (C := RX1) (T := TX1) (N := 9) hx hb hts in_X1 hown hK hP 1 rfl rfl 6 (by decide) (va_Nw.use rfl (hN _ q121 rfl)) (fun _ h9 => h9) rfl dX0_count_62 ?_
    have hf := Option.some.inj hf
    rw [← hQ]
    exact W.iret (v := S.2.2.2.2.1.1 6) hx hb hr (fun t ht hW => ⟨_, rfl, hf, ht⟩) (fun _ h => by cases h) dX0_count_65
  have hf := (if_neg c_1_3).symm.trans hf
  by_cases c_1_4 : a1 = 4
  · have hf := (if_pos c_1_4).symm.trans hf
    refine lv_tableIn (tgt := 66) hx hb dX0_count_1 (by rw [c_1_4]; decide) (by rw [c_1_4]; decide) (by rw [c_1_4]; rfl) (by decide) ?_
    refine lv_aload_n hx hb dX0_count_66 rfl (lv_at hl 0 rfl) ?_
    refine va_get (D := (g.1, g.2.1)) (ci := 0) (v := .ref (ad 1)) (C := RX0) (T := TX0) (N := 20) hx hb hts in_X0 hown hK hP 0 rfl rfl 0 (by decide) (hts _ q269) (fun _ h9 => h9) rfl dX0_count_67 ?_
    refine va_getN (D := (g.1, g.2.1)) (ci := 1) (v := .int (S.2.2.2.2.1.1 7)) (C := RX1) (T := TX1) (N := 9) hx hb hts in_X1 hown hK hP 1 rfl rfl 7 (by decide) (va_Nw.use rfl (hN _ q124 rfl)) (fun _ h9 => h9) rfl dX0_count_70 ?_
    have hf := Option.some.inj hf
    rw [← hQ]
    exact W.iret (v := S.2.2.2.2.1.1 7) hx hb hr (fun t ht hW => ⟨_, rfl, hf, ht⟩) (fun _ h => by cases h) dX0_count_73
  have hf := (if_neg c_1_4).symm.trans hf
  by_cases c_1_5 : a1 = 5
  · have hf := (if_pos c_1_5).symm.trans hf
    refine lv_tableIn (tgt := 74) hx hb dX0_count_1 (by rw [c_1_5]; decide) (by rw [c_1_5]; decide) (by rw [c_1_5]; rfl) (by decide) ?_
    refine lv_aload_n hx hb dX0_count_74 rfl (lv_at hl 0 rfl) ?_
    refine va_get (D := (g.1, g.2.1)) (ci := 0) (v := .ref (ad 29)) (C := RX0) (T := TX0) (N := 20) hx hb hts in_X0 hown hK hP 0 rfl rfl 1 (by decide) (hts _ q271) (fun _ h9 => h9) rfl dX0_count_75 ?_
    refine va_getN (D := (g.1, g.2.1)) (ci := 2) (v := .int ((S.2.2.1 0).1 6)) (C := RX2) (T := TX2) (N := 7) hx hb hts in_X2 hown hK hP 29 rfl rfl 6 (by decide) (va_Nw.use rfl (hN _ q174 rfl)) (fun _ h9 => h9) rfl dX0_count_78 ?_
    have hf := Option.some.inj hf
    rw [← hQ]
    exact W.iret (v := (S.2.2.1 0).1 6) hx hb hr (fun t ht hW => ⟨_, rfl, hf, ht⟩) (fun _ h => by cases h) dX0_count_81
  have hf := (if_neg c_1_5).symm.trans hf
  by_cases c_1_6 : a1 = 6
  · have hf := (if_pos c_1_6).symm.trans hf
    refine lv_tableIn (tgt := 82) hx hb dX0_count_1 (by rw [c_1_6]; decide) (by rw [c_1_6]; decide) (by rw [c_1_6]; rfl) (by decide) ?_
    refine lv_aload_n hx hb dX0_count_82 rfl (lv_at hl 0 rfl) ?_
    refine va_get (D := (g.1, g.2.1)) (ci := 0) (v := .int (S.1 12)) (C := RX0) (T := TX0) (N := 20) hx hb hts in_X0 hown hK hP 0 rfl rfl 12 (by decide) (hts _ q284) (fun _ h9 => h9) rfl dX0_count_83 ?_
    have hf := Option.some.inj hf
    rw [← hQ]
    exact W.iret (v := S.1 12) hx hb hr (fun t ht hW => ⟨_, rfl, hf, ht⟩) (fun _ h => by cases h) dX0_count_86
  have hf := (if_neg c_1_6).symm.trans hf
  by_cases c_1_7 : a1 = 7
  · have hf := (if_pos c_1_7).symm.trans hf
    refine lv_tableIn (tgt := 87) hx hb dX0_count_1 (by rw [c_1_7]; decide) (by rw [c_1_7]; decide) (by rw [c_1_7]; rfl) (by decide) ?_
    refine lv_aload_n hx hb dX0_count_87 rfl (lv_at hl 0 rfl) ?_
    refine va_get (D := (g.1, g.2.1)) (ci := 0) (v := .int (S.1 8)) (C := RX0) (T := TX0) (N := 20) hx hb hts in_X0 hown hK hP 0 rfl rfl 8 (by decide) (hts _ q280) (fun _ h9 => h9) rfl dX0_count_88 ?_
    have hf := Option.some.inj hf
    rw [← hQ]
    exact W.iret (v := S.1 8) hx hb hr (fun t ht hW => ⟨_, rfl, hf, ht⟩) (fun _ h => by cases h) dX0_count_91
  have hf := (if_neg c_1_7).symm.trans hf
  refine lv_tableOut (tgt := 92) hx hb dX0_count_1 (sm_out8 c_1_0 c_1_1 c_1_2 c_1_3 c_1_4 c_1_5 c_1_6 c_1_7) (by decide) ?_
  refine lv_iconst (v := (-1)) hx hb dX0_count_92 (by decide) ?_
  have hf := Option.some.inj hf
  rw [← hQ]
  exact W.iret (v := (-1)) hx hb hr (fun t ht hW => ⟨_, rfl, hf, ht⟩) (fun _ h => by cases h) dX0_count_93
abbrev rX0_trace : Room := { frames := 0, cells := 0, slots := 0, locals := 0 }
set_option maxHeartbeats 4000000 in
theorem wX0_trace (l : Launch) (g : GG) (ad : Nat → Nat) (S : XS) (rf : Int64) (hf : fX0_trace S = rf) : Met l yX0_trace (ws_ yX0_trace cX0_trace 1 (some .long)) rX0_trace (va_Pc [.ref (ad 0)] (fun Ux => PP g (WX g ad S) Ux.heap ∧ EV g Ux)) (vp_Sl (fun y => y = rf)) 0 0 (fun _ => False) := by
  refine sm_st (by decide) ?_
  intro p e s m args below meth c hx hb hr hlocks hml hown hnm hts hv
  obtain ⟨hargs, hP, hE⟩ := hv
  obtain ⟨hK, hN⟩ := id hE
  have hown : s.vm.findClass RX0 = some m.cls := hown
  refine sm_en _ (Nat.le_of_ble_eq_true rfl) hargs (fun ls hl => ?_)
  have hl : lv_has ls 1 [(0, .ref (ad 0))] := hl
  generalize hQ : MQ below _ args s _ _ _ = Q
  unfold fX0_trace at hf
  refine lv_aload_n hx hb dX0_trace_0 rfl (lv_at hl 0 rfl) ?_
  refine va_get (D := (g.1, g.2.1)) (ci := 0) (v := .long S.2.2.2.1) (C := RX0) (T := TX0) (N := 20) hx hb hts in_X0 hown hK hP 0 rfl rfl 18 (by decide) (hts _ q296) (fun _ h9 => h9) rfl dX0_trace_1 ?_
  rw [← hQ]
  exact W.lret (v := S.2.2.2.1) hx hb hr (fun t ht hW => ⟨_, rfl, hf, ht⟩) (fun _ h => by cases h) dX0_trace_4
abbrev rX0_ways : Room := { frames := 1, cells := 0, slots := 0, locals := 20 }
set_option maxHeartbeats 4000000 in
theorem wX0_ways (l : Launch) (g : GG) (ad : Nat → Nat) (S : XS) (a1 : Int32) (a2 : Int32) (rf : Int64) (hf : fX0_ways S a1 a2 = some rf) : Met l yX0_ways (ws_ yX0_ways cX0_ways 9 (some .long)) rX0_ways (va_Pc [.ref (ad 0), .int a1, .int a2] (fun Ux => PP g (WX g ad S) Ux.heap ∧ EV g Ux)) (vp_Sl (fun y => y = rf)) 0 0 (fun _ => False) := by
  refine sm_st (by decide) ?_
  intro p e s m args below meth c hx hb hr hlocks hml hown hnm hts hv
  obtain ⟨hargs, hP, hE⟩ := hv
  obtain ⟨hK, hN⟩ := id hE
  have hown : s.vm.findClass RX0 = some m.cls := hown
  refine sm_en _ (Nat.le_of_ble_eq_true rfl) hargs (fun ls hl => ?_)
  have hl : lv_has ls 9 [(0, .ref (ad 0)), (1, .int a1), (2, .int a2)] := hl
  generalize hQ : MQ below _ args s _ _ _ = Q
  unfold fX0_ways at hf
  refine lv_lconst (v := 0) hx hb dX0_ways_0 (by decide) ?_
  refine lv_lstore_n (lv' := [(3, .long 0), (0, .ref (ad 0)), (1, .int a1), (2, .int a2)]) hx hb dX0_ways_1 rfl hl (by decide) rfl (fun ls hl => ?_)
  refine lv_iconst (v := 0) hx hb dX0_ways_2 (by decide) ?_
  refine lv_istore (lv' := [(5, .int 0), (3, .long 0), (0, .ref (ad 0)), (1, .int a1), (2, .int a2)]) hx hb dX0_ways_3 hl (by decide) rfl (fun ls hl => ?_)
  have L_8 : ∀ (n : Nat) (x_1 : Int32) (x_2 : Int64) (o_9 : Int32) (o_10 : Int64) (ls : Array Slot), sm_lp (fun q => fX0_ways_5 S a1 a2 q.1 q.2) n (x_1, x_2) = some (o_9, o_10) → lv_has ls 9 [(0, .ref (ad 0)), (1, .int a1), (2, .int a2), (5, .int x_1), (3, .long x_2)] → (∀ (ls : Array Slot), lv_has ls 9 [(0, .ref (ad 0)), (1, .int a1), (2, .int a2), (5, .int o_9), (3, .long o_10)] → W p l e rX0_ways s m args below meth c s.heap [] 0 0 Q (F0 m 126 ls [])) → W p l e rX0_ways s m args below meth c s.heap [] 0 0 Q (F0 m 5 ls []) := by
    intro n
    induction n with
    | zero =>
      intro _ _ _ _ _ hf
      cases hf
    | succ n ih_3 =>
      intro x_1 x_2 o_9 o_10 ls hf hl kx_4
      obtain ⟨q, hf, hc_7⟩ := sm_bnd hf
      have hf : fX0_ways_5 S a1 a2 x_1 x_2 = some q := hf
      unfold fX0_ways_5 at hf
      refine lv_iload hx hb dX0_ways_5 (lv_at hl 3 rfl) ?_
      refine lv_iconst (v := 1) hx hb dX0_ways_7 (by decide) ?_
      refine lv_aload_n hx hb dX0_ways_8 rfl (lv_at hl 0 rfl) ?_
      refine va_get (D := (g.1, g.2.1)) (ci := 0) (v := .ref (ad 1)) (C := RX0) (T := TX0) (N := 20) hx hb hts in_X0 hown hK hP 0 rfl rfl 0 (by decide) (hts _ q269) (fun _ h9 => h9) rfl dX0_ways_9 ?_
      refine va_getN (D := (g.1, g.2.1)) (ci := 1) (v := .int (S.2.2.2.2.1.1 6)) (C := RX1) (T := TX1) (N := 9) hx hb hts in_X1 hown hK hP 1 rfl rfl 6 (by decide) (va_Nw.use rfl (hN _ q121 rfl)) (fun _ h9 => h9) rfl dX0_ways_12 ?_
      refine lv_ishl hx hb dX0_ways_15 ?_
      refine lv_icmp_ge (tgt := 126) hx hb dX0_ways_16 (by decide) (fun c_11 => ?_) (fun c_11 => ?_)
      · have hf := (if_pos c_11).symm.trans hf
        cases hf
        have hc_7 : some (x_1, x_2) = some (o_9, o_10) := hc_7
        cases hc_7
        exact kx_4 _ (lv_sub hl [0, 1, 2, 3, 4] rfl)
      · have hf := (if_neg c_11).symm.trans hf
        refine lv_iload hx hb dX0_ways_19 (lv_at hl 3 rfl) ?_
        refine vp_callSi (W.runS (As := [.int x_1]) (rest := []) ⟨hx, hb, hml, hown, hts⟩ (wJ10_bitCount l x_1 (fJ10_bitCount x_1) rfl) (va_cwS 1 hts (lw_S q653 q654 q83 q655) rfl rfl rfl (by decide +kernel) ⟨Nat.le_of_ble_eq_true rfl, Nat.le_of_ble_eq_true rfl⟩) (sm_ps) rfl rfl hl.1 rfl (lv_room (Nat.le_of_ble_eq_true rfl)) dX0_ways_21 ⟨Nat.le_of_ble_eq_true rfl, Nat.le_of_ble_eq_true rfl⟩) (fun r_13 er_12 => ?_)
        have er_12 := er_12.symm
        subst er_12
        refine lv_iload_n hx hb dX0_ways_24 rfl (lv_at hl 1 rfl) ?_
        obtain ⟨x_14, hf, hf0⟩ := sm_b1_e hf
        suffices hj_15 : ∀ (ls : Array Slot), lv_has ls 9 [(0, .ref (ad 0)), (1, .int a1), (2, .int a2), (5, .int x_1), (3, .long x_2)] → W p l e rX0_ways s m args below meth c s.heap [] 0 0 Q (F0 m 48 ls [.long x_14]) from by
          refine lv_icmp_ne (tgt := 47) hx hb dX0_ways_25 (by decide) (fun c_16 => ?_) (fun c_16 => ?_)
          · have hf := (if_neg c_16).symm.trans hf
            refine lv_lconst (v := 0) hx hb dX0_ways_47 (by decide) ?_
            cases hf
            exact hj_15 _ (lv_sub hl [0, 1, 2, 3, 4] rfl)
          · have hf := (if_pos c_16).symm.trans hf
            refine lv_iload_n hx hb dX0_ways_28 rfl (lv_at hl 2 rfl) ?_
            refine lv_bipush (v := (-9)) hx hb dX0_ways_29 (by decide) ?_
            refine lv_icmp_eq (tgt := 43) hx hb dX0_ways_31 (by decide) (fun c_17 => ?_) (fun c_17 => ?_)
            · have hf := (if_pos c_17).symm.trans hf
              refine lv_lconst (v := 1) hx hb dX0_ways_43 (by decide) ?_
              refine lv_goto (tgt := 48) hx hb dX0_ways_44 (by decide) ?_
              cases hf
              exact hj_15 _ (lv_sub hl [0, 1, 2, 3, 4] rfl)
            · have hf := (if_neg c_17).symm.trans hf
              refine lv_iload hx hb dX0_ways_34 (lv_at hl 3 rfl) ?_
              refine lv_iload_n hx hb dX0_ways_36 rfl (lv_at hl 2 rfl) ?_
              refine lv_ishr hx hb dX0_ways_37 ?_
              refine lv_iconst (v := 1) hx hb dX0_ways_38 (by decide) ?_
              refine lv_iand hx hb dX0_ways_39 ?_
              refine lv_if_ne (tgt := 47) hx hb dX0_ways_40 (by decide) (fun c_18 => ?_) (fun c_18 => ?_)
              · have hf := (if_neg c_18).symm.trans hf
                refine lv_lconst (v := 0) hx hb dX0_ways_47 (by decide) ?_
                cases hf
                exact hj_15 _ (lv_sub hl [0, 1, 2, 3, 4] rfl)
              · have hf := (if_pos c_18).symm.trans hf
                refine lv_lconst (v := 1) hx hb dX0_ways_43 (by decide) ?_
                refine lv_goto (tgt := 48) hx hb dX0_ways_44 (by decide) ?_
                cases hf
                exact hj_15 _ (lv_sub hl [0, 1, 2, 3, 4] rfl)
        intro ls hl
        have hf := hf0
        refine lv_lstore (lv' := [(6, .long x_14), (0, .ref (ad 0)), (1, .int a1), (2, .int a2), (5, .int x_1), (3, .long x_2)]) hx hb dX0_ways_48 hl (by decide) rfl (fun ls hl => ?_)
        refine lv_iconst (v := 0) hx hb dX0_ways_50 (by decide) ?_
        refine lv_istore (lv' := [(8, .int 0), (6, .long x_14), (0, .ref (ad 0)), (1, .int a1), (2, .int a2), (5, .int x_1), (3, .long x_2)]) hx hb dX0_ways_51 hl (by decide) rfl (fun ls hl => ?_)
        have L_26 : ∀ (n : Nat) (x_19 : Int32) (x_20 : Int64) (o_27 : Int32) (o_28 : Int64) (ls : Array Slot), sm_lp (fun q => fX0_ways_53 S x_1 q.1 q.2) n (x_19, x_20) = some (o_27, o_28) → lv_has ls 9 [(0, .ref (ad 0)), (1, .int a1), (2, .int a2), (5, .int x_1), (3, .long x_2), (8, .int x_19), (6, .long x_20)] → (∀ (ls : Array Slot), lv_has ls 9 [(0, .ref (ad 0)), (1, .int a1), (2, .int a2), (5, .int x_1), (3, .long x_2), (8, .int o_27), (6, .long o_28)] → W p l e rX0_ways s m args below meth c s.heap [] 0 0 Q (F0 m 115 ls [])) → W p l e rX0_ways s m args below meth c s.heap [] 0 0 Q (F0 m 53 ls []) := by
          intro n
          induction n with
          | zero =>
            intro _ _ _ _ _ hf
            cases hf
          | succ n ih_21 =>
            intro x_19 x_20 o_27 o_28 ls hf hl kx_22
            obtain ⟨q, hf, hc_25⟩ := sm_bnd hf
            have hf : fX0_ways_53 S x_1 x_19 x_20 = some q := hf
            unfold fX0_ways_53 at hf
            refine lv_iload hx hb dX0_ways_53 (lv_at hl 5 rfl) ?_
            refine lv_aload_n hx hb dX0_ways_55 rfl (lv_at hl 0 rfl) ?_
            refine va_get (D := (g.1, g.2.1)) (ci := 0) (v := .ref (ad 1)) (C := RX0) (T := TX0) (N := 20) hx hb hts in_X0 hown hK hP 0 rfl rfl 0 (by decide) (hts _ q269) (fun _ h9 => h9) rfl dX0_ways_56 ?_
            refine va_getN (D := (g.1, g.2.1)) (ci := 1) (v := .int (S.2.2.2.2.1.1 6)) (C := RX1) (T := TX1) (N := 9) hx hb hts in_X1 hown hK hP 1 rfl rfl 6 (by decide) (va_Nw.use rfl (hN _ q121 rfl)) (fun _ h9 => h9) rfl dX0_ways_59 ?_
            refine lv_icmp_ge (tgt := 115) hx hb dX0_ways_62 (by decide) (fun c_29 => ?_) (fun c_29 => ?_)
            · have hf := (if_pos c_29).symm.trans hf
              cases hf
              have hc_25 : some (x_19, x_20) = some (o_27, o_28) := hc_25
              cases hc_25
              exact kx_22 _ (lv_sub hl [0, 1, 2, 3, 4, 5, 6] rfl)
            · have hf := (if_neg c_29).symm.trans hf
              refine lv_lload hx hb dX0_ways_65 (lv_at hl 6 rfl) ?_
              refine lv_iload hx hb dX0_ways_67 (lv_at hl 3 rfl) ?_
              refine lv_iload hx hb dX0_ways_69 (lv_at hl 5 rfl) ?_
              refine lv_ishr hx hb dX0_ways_71 ?_
              refine lv_iconst (v := 1) hx hb dX0_ways_72 (by decide) ?_
              refine lv_iand hx hb dX0_ways_73 ?_
              refine lv_iconst (v := 1) hx hb dX0_ways_74 (by decide) ?_
              refine lv_icmp_ne (tgt := 92) hx hb dX0_ways_75 (by decide) (fun c_30 => ?_) (fun c_30 => ?_)
              · have hf := (if_neg c_30).symm.trans hf
                refine lv_bipush (v := 10) hx hb dX0_ways_92 (by decide) ?_
                refine lv_aload_n hx hb dX0_ways_94 rfl (lv_at hl 0 rfl) ?_
                refine va_get (D := (g.1, g.2.1)) (ci := 0) (v := .ref (ad 1)) (C := RX0) (T := TX0) (N := 20) hx hb hts in_X0 hown hK hP 0 rfl rfl 0 (by decide) (hts _ q269) (fun _ h9 => h9) rfl dX0_ways_95 ?_
                refine va_getN (D := (g.1, g.2.1)) (ci := 1) (v := .ref (ad 4)) (C := RX1) (T := TX1) (N := 9) hx hb hts in_X1 hown hK hP 1 rfl rfl 2 (by decide) (va_Nw.use rfl (hN _ q107 rfl)) (fun _ h9 => h9) rfl dX0_ways_98 ?_
                refine lv_iload hx hb dX0_ways_101 (lv_at hl 5 rfl) ?_
                obtain ⟨hg, hf⟩ := sm_gd_e hf
                refine va_iald hx hb hK hP 4 0 rfl rfl (sm_in hg) dX0_ways_103 ?_
                refine lv_isub hx hb dX0_ways_104 ?_
                refine lv_i2l (v := (10 - (S.2.2.2.2.1.2 2 x_19.toNatClampNeg)).toInt64) hx hb dX0_ways_105 rfl ?_
                refine lv_lmul hx hb dX0_ways_106 ?_
                refine lv_topl (fun x_31 ex_31 => ?_)
                have hf := sm_lt_v hf ex_31
                refine lv_lstore (lv' := [(6, .long x_31), (0, .ref (ad 0)), (1, .int a1), (2, .int a2), (5, .int x_1), (3, .long x_2), (8, .int x_19)]) hx hb dX0_ways_107 hl (by decide) rfl (fun ls hl => ?_)
                refine lv_iinc (v := x_19 + 1) (lv' := [(8, .int (x_19 + 1)), (6, .long x_31), (0, .ref (ad 0)), (1, .int a1), (2, .int a2), (5, .int x_1), (3, .long x_2)]) hx hb dX0_ways_109 hl (k := 6) rfl rfl (by decide) rfl (fun ls hl => ?_)
                refine lv_goto (tgt := 53) hx hb dX0_ways_112 (by decide) ?_
                cases hf
                exact ih_21 _ _ _ _ _ hc_25 (lv_sub hl [2, 3, 4, 5, 6, 0, 1] rfl) kx_22
              · have hf := (if_pos c_30).symm.trans hf
                refine lv_aload_n hx hb dX0_ways_78 rfl (lv_at hl 0 rfl) ?_
                refine va_get (D := (g.1, g.2.1)) (ci := 0) (v := .ref (ad 1)) (C := RX0) (T := TX0) (N := 20) hx hb hts in_X0 hown hK hP 0 rfl rfl 0 (by decide) (hts _ q269) (fun _ h9 => h9) rfl dX0_ways_79 ?_
                refine va_getN (D := (g.1, g.2.1)) (ci := 1) (v := .ref (ad 4)) (C := RX1) (T := TX1) (N := 9) hx hb hts in_X1 hown hK hP 1 rfl rfl 2 (by decide) (va_Nw.use rfl (hN _ q107 rfl)) (fun _ h9 => h9) rfl dX0_ways_82 ?_
                refine lv_iload hx hb dX0_ways_85 (lv_at hl 5 rfl) ?_
                obtain ⟨hg, hf⟩ := sm_gd_e hf
                refine va_iald hx hb hK hP 4 0 rfl rfl (sm_in hg) dX0_ways_87 ?_
                refine lv_i2l (v := (S.2.2.2.2.1.2 2 x_19.toNatClampNeg).toInt64) hx hb dX0_ways_88 rfl ?_
                refine lv_goto (tgt := 106) hx hb dX0_ways_89 (by decide) ?_
                refine lv_lmul hx hb dX0_ways_106 ?_
                refine lv_topl (fun x_32 ex_32 => ?_)
                have hf := sm_lt_v hf ex_32
                refine lv_lstore (lv' := [(6, .long x_32), (0, .ref (ad 0)), (1, .int a1), (2, .int a2), (5, .int x_1), (3, .long x_2), (8, .int x_19)]) hx hb dX0_ways_107 hl (by decide) rfl (fun ls hl => ?_)
                refine lv_iinc (v := x_19 + 1) (lv' := [(8, .int (x_19 + 1)), (6, .long x_32), (0, .ref (ad 0)), (1, .int a1), (2, .int a2), (5, .int x_1), (3, .long x_2)]) hx hb dX0_ways_109 hl (k := 6) rfl rfl (by decide) rfl (fun ls hl => ?_)
                refine lv_goto (tgt := 53) hx hb dX0_ways_112 (by decide) ?_
                cases hf
                exact ih_21 _ _ _ _ _ hc_25 (lv_sub hl [2, 3, 4, 5, 6, 0, 1] rfl) kx_22
        obtain ⟨x_34, x_35, ho, hf⟩ := sm_b2_e hf
        refine L_26 FU 0 x_14 x_34 x_35 ls ho (lv_sub hl [2, 3, 4, 5, 6, 0, 1] rfl) ?_
        intro ls hl
        refine lv_lload_n hx hb dX0_ways_115 rfl (lv_at hl 4 rfl) ?_
        refine lv_lload hx hb dX0_ways_116 (lv_at hl 6 rfl) ?_
        refine lv_ladd hx hb dX0_ways_118 ?_
        refine lv_lstore_n (lv' := [(3, .long (x_2 + x_35)), (0, .ref (ad 0)), (1, .int a1), (2, .int a2), (5, .int x_1), (8, .int x_34), (6, .long x_35)]) hx hb dX0_ways_119 rfl hl (by decide) rfl (fun ls hl => ?_)
        refine lv_iinc (v := x_1 + 1) (lv' := [(5, .int (x_1 + 1)), (3, .long (x_2 + x_35)), (0, .ref (ad 0)), (1, .int a1), (2, .int a2), (8, .int x_34), (6, .long x_35)]) hx hb dX0_ways_120 hl (k := 4) rfl rfl (by decide) rfl (fun ls hl => ?_)
        refine lv_goto (tgt := 5) hx hb dX0_ways_123 (by decide) ?_
        cases hf
        exact ih_3 _ _ _ _ _ hc_7 (lv_sub hl [2, 3, 4, 0, 1] rfl) kx_4
  obtain ⟨x_37, x_38, ho, hf⟩ := sm_b2_e hf
  refine L_8 FU 0 0 x_37 x_38 ls ho (lv_sub hl [2, 3, 4, 0, 1] rfl) ?_
  intro ls hl
  refine lv_lload_n hx hb dX0_ways_126 rfl (lv_at hl 4 rfl) ?_
  have hf := Option.some.inj hf
  rw [← hQ]
  exact W.lret (v := x_38) hx hb hr (fun t ht hW => ⟨_, rfl, hf, ht⟩) (fun _ h => by cases h) dX0_ways_127
