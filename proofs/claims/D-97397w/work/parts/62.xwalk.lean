/-! SmokedLetters, walked: printed by gen/xmain.py -/
set_option maxRecDepth 100000
abbrev rX0_now : Room := { frames := 2, cells := 0, slots := 0, locals := 45 }
set_option maxHeartbeats 4000000 in
theorem wX0_now (l : Launch) (g : GG) (ad : Nat → Nat) (S : XS) (a1 : Int32) (rf : Int32) (hf : fX0_now S a1 = some rf) : Met l yX0_now (ws_ yX0_now cX0_now 2 (some .int)) rX0_now (va_Pc [.ref (ad 0), .int a1] (fun Ux => PP g (WX g ad S) Ux.heap ∧ EV g Ux)) (vp_Si (fun y => y = rf)) 0 0 (fun _ => False) := by
  refine sm_st (by decide) ?_
  intro p e s m args below meth c hx hb hr hlocks hml hown hnm hts hv
  obtain ⟨hargs, hP, hE⟩ := hv
  obtain ⟨hK, hN⟩ := id hE
  have hown : s.vm.findClass RX0 = some m.cls := hown
  refine sm_en _ (Nat.le_of_ble_eq_true rfl) hargs (fun ls hl => ?_)
  have hl : lv_has ls 2 [(0, .ref (ad 0)), (1, .int a1)] := hl
  generalize hQ : MQ below _ args s _ _ _ = Q
  unfold fX0_now at hf
  refine lv_iload_n hx hb dX0_now_0 rfl (lv_at hl 1 rfl) ?_
  by_cases c_1_0 : a1 = 0
  · have hf := (if_pos c_1_0).symm.trans hf
    refine lv_tableIn (tgt := 40) hx hb dX0_now_1 (by rw [c_1_0]; decide) (by rw [c_1_0]; decide) (by rw [c_1_0]; rfl) (by decide) ?_
    refine lv_aload_n hx hb dX0_now_40 rfl (lv_at hl 0 rfl) ?_
    refine va_get (D := (g.1, g.2.1)) (ci := 0) (v := .ref (ad 29)) (C := RX0) (T := TX0) (N := 20) hx hb hts in_X0 hown hK hP 0 rfl rfl 1 (by decide) (hts _ q271) (fun _ h9 => h9) rfl dX0_now_41 ?_
    refine va_getN (D := (g.1, g.2.1)) (ci := 2) (v := .int ((S.2.2.1 0).1 0)) (C := RX2) (T := TX2) (N := 7) hx hb hts in_X2 hown hK hP 29 rfl rfl 0 (by decide) (va_Nw.use rfl (hN _ q161 rfl)) (fun _ h9 => h9) rfl dX0_now_44 ?_
    have hf := Option.some.inj hf
    rw [← hQ]
    exact W.iret (v := (S.2.2.1 0).1 0) hx hb hr (fun t ht hW => ⟨_, rfl, hf, ht⟩) (fun _ h => by cases h) dX0_now_47
  have hf := (if_neg c_1_0).symm.trans hf
  by_cases c_1_1 : a1 = 1
  · have hf := (if_pos c_1_1).symm.trans hf
    refine lv_tableIn (tgt := 48) hx hb dX0_now_1 (by rw [c_1_1]; decide) (by rw [c_1_1]; decide) (by rw [c_1_1]; rfl) (by decide) ?_
    refine lv_aload_n hx hb dX0_now_48 rfl (lv_at hl 0 rfl) ?_
    refine va_get (D := (g.1, g.2.1)) (ci := 0) (v := .ref (ad 29)) (C := RX0) (T := TX0) (N := 20) hx hb hts in_X0 hown hK hP 0 rfl rfl 1 (by decide) (hts _ q271) (fun _ h9 => h9) rfl dX0_now_49 ?_
    refine va_getN (D := (g.1, g.2.1)) (ci := 2) (v := .int ((S.2.2.1 0).1 1)) (C := RX2) (T := TX2) (N := 7) hx hb hts in_X2 hown hK hP 29 rfl rfl 1 (by decide) (va_Nw.use rfl (hN _ q163 rfl)) (fun _ h9 => h9) rfl dX0_now_52 ?_
    have hf := Option.some.inj hf
    rw [← hQ]
    exact W.iret (v := (S.2.2.1 0).1 1) hx hb hr (fun t ht hW => ⟨_, rfl, hf, ht⟩) (fun _ h => by cases h) dX0_now_55
  have hf := (if_neg c_1_1).symm.trans hf
  by_cases c_1_2 : a1 = 2
  · have hf := (if_pos c_1_2).symm.trans hf
    refine lv_tableIn (tgt := 56) hx hb dX0_now_1 (by rw [c_1_2]; decide) (by rw [c_1_2]; decide) (by rw [c_1_2]; rfl) (by decide) ?_
    refine lv_aload_n hx hb dX0_now_56 rfl (lv_at hl 0 rfl) ?_
    refine va_get (D := (g.1, g.2.1)) (ci := 0) (v := .ref (ad 29)) (C := RX0) (T := TX0) (N := 20) hx hb hts in_X0 hown hK hP 0 rfl rfl 1 (by decide) (hts _ q271) (fun _ h9 => h9) rfl dX0_now_57 ?_
    refine lv_aload_n hx hb dX0_now_60 rfl (lv_at hl 0 rfl) ?_
    refine va_get (D := (g.1, g.2.1)) (ci := 0) (v := .ref (ad 1)) (C := RX0) (T := TX0) (N := 20) hx hb hts in_X0 hown hK hP 0 rfl rfl 0 (by decide) (hts _ q269) (fun _ h9 => h9) rfl dX0_now_61 ?_
    obtain ⟨r_2, h_3, hf⟩ := sm_b1_e hf
    refine vp_callSi (W.runV (As := [.ref (ad 1)]) (rest := []) ⟨hx, hb, hml, hown, hts⟩ (wX2_leavers l g (ai ad 0) (bd ad) S.2.2.2.2.1 (S.2.2.1 0)  r_2 h_3) (cwV 1 hts (lw_V q596 q597 q598 q62 q599) rfl rfl rfl (by decide +kernel) ⟨Nat.le_of_ble_eq_true rfl, Nat.le_of_ble_eq_true rfl⟩) (sm_pv hE (sm_pIB (j := 0) (by decide) hP) (va_recv hK (sm_pIB (j := 0) (by decide) hP) (ci := 2) (q0 := 0) rfl rfl)) rfl rfl hl.1 rfl (lv_room (Nat.le_of_ble_eq_true rfl)) dX0_now_64 ⟨Nat.le_of_ble_eq_true rfl, Nat.le_of_ble_eq_true rfl⟩) (fun r_5 er_4 => ?_)
    have er_4 := er_4.symm
    subst er_4
    have hf := Option.some.inj hf
    rw [← hQ]
    exact W.iret (v := r_2) hx hb hr (fun t ht hW => ⟨_, rfl, hf, ht⟩) (fun _ h => by cases h) dX0_now_67
  have hf := (if_neg c_1_2).symm.trans hf
  by_cases c_1_3 : a1 = 3
  · have hf := (if_pos c_1_3).symm.trans hf
    refine lv_tableIn (tgt := 68) hx hb dX0_now_1 (by rw [c_1_3]; decide) (by rw [c_1_3]; decide) (by rw [c_1_3]; rfl) (by decide) ?_
    refine lv_aload_n hx hb dX0_now_68 rfl (lv_at hl 0 rfl) ?_
    refine va_get (D := (g.1, g.2.1)) (ci := 0) (v := .ref (ad 29)) (C := RX0) (T := TX0) (N := 20) hx hb hts in_X0 hown hK hP 0 rfl rfl 1 (by decide) (hts _ q271) (fun _ h9 => h9) rfl dX0_now_69 ?_
    refine va_getN (D := (g.1, g.2.1)) (ci := 2) (v := .int ((S.2.2.1 0).1 2)) (C := RX2) (T := TX2) (N := 7) hx hb hts in_X2 hown hK hP 29 rfl rfl 2 (by decide) (va_Nw.use rfl (hN _ q166 rfl)) (fun _ h9 => h9) rfl dX0_now_72 ?_
    have hf := Option.some.inj hf
    rw [← hQ]
    exact W.iret (v := (S.2.2.1 0).1 2) hx hb hr (fun t ht hW => ⟨_, rfl, hf, ht⟩) (fun _ h => by cases h) dX0_now_75
  have hf := (if_neg c_1_3).symm.trans hf
  by_cases c_1_4 : a1 = 4
  · have hf := (if_pos c_1_4).symm.trans hf
    refine lv_tableIn (tgt := 76) hx hb dX0_now_1 (by rw [c_1_4]; decide) (by rw [c_1_4]; decide) (by rw [c_1_4]; rfl) (by decide) ?_
    refine lv_aload_n hx hb dX0_now_76 rfl (lv_at hl 0 rfl) ?_
    refine va_get (D := (g.1, g.2.1)) (ci := 0) (v := .ref (ad 1)) (C := RX0) (T := TX0) (N := 20) hx hb hts in_X0 hown hK hP 0 rfl rfl 0 (by decide) (hts _ q269) (fun _ h9 => h9) rfl dX0_now_77 ?_
    refine lv_aload_n hx hb dX0_now_80 rfl (lv_at hl 0 rfl) ?_
    refine va_get (D := (g.1, g.2.1)) (ci := 0) (v := .ref (ad 29)) (C := RX0) (T := TX0) (N := 20) hx hb hts in_X0 hown hK hP 0 rfl rfl 1 (by decide) (hts _ q271) (fun _ h9 => h9) rfl dX0_now_81 ?_
    refine va_getN (D := (g.1, g.2.1)) (ci := 2) (v := .int ((S.2.2.1 0).1 0)) (C := RX2) (T := TX2) (N := 7) hx hb hts in_X2 hown hK hP 29 rfl rfl 0 (by decide) (va_Nw.use rfl (hN _ q161 rfl)) (fun _ h9 => h9) rfl dX0_now_84 ?_
    obtain ⟨r_6, h_7, hf⟩ := sm_b1_e hf
    refine vp_callSi (W.runV (As := [.int ((S.2.2.1 0).1 0)]) (rest := []) ⟨hx, hb, hml, hown, hts⟩ (wX1_isBoat l g (bd ad) S.2.2.2.2.1 ((S.2.2.1 0).1 0) r_6 h_7) (cwV 1 hts (lw_V q604 q605 q606 q61 q607) rfl rfl rfl (by decide +kernel) ⟨Nat.le_of_ble_eq_true rfl, Nat.le_of_ble_eq_true rfl⟩) (sm_pv hE (sm_pB hP) (va_recv hK (sm_pB hP) (ci := 1) (q0 := 0) rfl rfl)) rfl rfl hl.1 rfl (lv_room (Nat.le_of_ble_eq_true rfl)) dX0_now_87 ⟨Nat.le_of_ble_eq_true rfl, Nat.le_of_ble_eq_true rfl⟩) (fun r_9 er_8 => ?_)
    have er_8 := er_8.symm
    subst er_8
    refine lv_if_eq (tgt := 97) hx hb dX0_now_90 (by decide) (fun c_10 => ?_) (fun c_10 => ?_)
    · have hf := (if_pos c_10).symm.trans hf
      refine lv_iconst (v := 0) hx hb dX0_now_97 (by decide) ?_
      have hf := Option.some.inj hf
      rw [← hQ]
      exact W.iret (v := 0) hx hb hr (fun t ht hW => ⟨_, rfl, hf, ht⟩) (fun _ h => by cases h) dX0_now_98
    · have hf := (if_neg c_10).symm.trans hf
      refine lv_iconst (v := 1) hx hb dX0_now_93 (by decide) ?_
      refine lv_goto (tgt := 98) hx hb dX0_now_94 (by decide) ?_
      have hf := Option.some.inj hf
      rw [← hQ]
      exact W.iret (v := 1) hx hb hr (fun t ht hW => ⟨_, rfl, hf, ht⟩) (fun _ h => by cases h) dX0_now_98
  have hf := (if_neg c_1_4).symm.trans hf
  by_cases c_1_5 : a1 = 5
  · have hf := (if_pos c_1_5).symm.trans hf
    refine lv_tableIn (tgt := 99) hx hb dX0_now_1 (by rw [c_1_5]; decide) (by rw [c_1_5]; decide) (by rw [c_1_5]; rfl) (by decide) ?_
    refine lv_aload_n hx hb dX0_now_99 rfl (lv_at hl 0 rfl) ?_
    refine va_get (D := (g.1, g.2.1)) (ci := 0) (v := .int (S.1 4)) (C := RX0) (T := TX0) (N := 20) hx hb hts in_X0 hown hK hP 0 rfl rfl 4 (by decide) (hts _ q274) (fun _ h9 => h9) rfl dX0_now_100 ?_
    have hf := Option.some.inj hf
    rw [← hQ]
    exact W.iret (v := S.1 4) hx hb hr (fun t ht hW => ⟨_, rfl, hf, ht⟩) (fun _ h => by cases h) dX0_now_103
  have hf := (if_neg c_1_5).symm.trans hf
  refine lv_tableOut (tgt := 104) hx hb dX0_now_1 (sm_out6 c_1_0 c_1_1 c_1_2 c_1_3 c_1_4 c_1_5) (by decide) ?_
  refine lv_iconst (v := (-1)) hx hb dX0_now_104 (by decide) ?_
  have hf := Option.some.inj hf
  rw [← hQ]
  exact W.iret (v := (-1)) hx hb hr (fun t ht hW => ⟨_, rfl, hf, ht⟩) (fun _ h => by cases h) dX0_now_105
abbrev rX0_know : Room := { frames := 2, cells := 0, slots := 0, locals := 81 }
set_option maxHeartbeats 4000000 in
theorem wX0_know (l : Launch) (g : GG) (ad : Nat → Nat) (S : XS) (Sf : XS) (hf : fX0_know S = some Sf) : Met l yX0_know (ws_ yX0_know cX0_know 2 none) rX0_know (va_Pc [.ref (ad 0)] (fun Ux => PP g (WX g ad S) Ux.heap ∧ EV g Ux ∧ va_D (AX ad) (WX g ad S))) (va_Qv (fun (_ : Unit) => True) (fun _ t => PP g (WX g ad Sf) t.heap ∧ va_D (AX ad) (WX g ad Sf)) (AX ad)) 0 0 (AX ad) := by
  refine sm_st (by decide) ?_
  intro p e s m args below meth c hx hb hr hlocks hml hown hnm hts hv
  obtain ⟨hargs, hP, hE, hD⟩ := hv
  obtain ⟨hK, hN⟩ := id hE
  have hS : va_S (AX ad) s.heap s.heap [] := va_S.rf
  have hown : s.vm.findClass RX0 = some m.cls := hown
  refine sm_en _ (Nat.le_of_ble_eq_true rfl) hargs (fun ls hl => ?_)
  have hl : lv_has ls 2 [(0, .ref (ad 0))] := hl
  generalize hQ : MQ below _ args s _ _ _ = Q
  unfold fX0_know at hf
  refine lv_aload_n hx hb dX0_know_0 rfl (lv_at hl 0 rfl) ?_
  refine va_get (D := (g.1, g.2.1)) (ci := 0) (v := .int (S.1 4)) (C := RX0) (T := TX0) (N := 20) hx hb hts in_X0 hown hK hP 0 rfl rfl 4 (by decide) (hts _ q274) (fun _ h9 => h9) rfl dX0_know_1 ?_
  refine lv_bipush (v := 10) hx hb dX0_know_4 (by decide) ?_
  obtain ⟨S_1, hf, hf0⟩ := sm_b1_e hf
  suffices hj_2 : ∀ (H : Heap) (locs : List Loc) (ls : Array Slot), PP g (WX g ad S_1) H → va_D (AX ad) (WX g ad S_1) → va_S (AX ad) s.heap H locs → lv_has ls 2 [(0, .ref (ad 0))] → W p l e rX0_know s m args below meth c H locs 0 0 Q (F0 m 49 ls []) from by
    refine lv_icmp_ne (tgt := 49) hx hb dX0_know_6 (by decide) (fun c_3 => ?_) (fun c_3 => ?_)
    · have hf := (if_neg c_3).symm.trans hf
      cases hf
      exact hj_2 _ _ _ hP hD hS (lv_sub hl [0] rfl)
    · have hf := (if_pos c_3).symm.trans hf
      refine lv_aload_n hx hb dX0_know_9 rfl (lv_at hl 0 rfl) ?_
      refine va_get (D := (g.1, g.2.1)) (ci := 0) (v := .ref (ad 20)) (C := RX0) (T := TX0) (N := 20) hx hb hts in_X0 hown hK hP 0 rfl rfl 3 (by decide) (hts _ q273) (fun _ h9 => h9) rfl dX0_know_10 ?_
      refine lv_iconst (v := 0) hx hb dX0_know_13 (by decide) ?_
      refine va_aldq hx hb hK hP 20 4 rfl rfl (sm_in rfl) dX0_know_14 ?_
      obtain ⟨hg_4, hf⟩ := sm_gd_e hf
      refine lv_astore_n (lv' := [(1, .ref (ad (29 + 4 * (S.2.2.2.2.2 0)))), (0, .ref (ad 0))]) hx hb dX0_know_15 rfl hl (by decide) rfl (fun ls hl => ?_)
      refine lv_aload_n hx hb dX0_know_16 rfl (lv_at hl 1 rfl) ?_
      refine va_get (D := (g.1, g.2.1)) (ci := 0) (v := .ref (ad 20)) (C := RX0) (T := TX0) (N := 20) hx hb hts in_X0 hown hK hP 0 rfl rfl 3 (by decide) (hts _ q273) (fun _ h9 => h9) rfl dX0_know_17 ?_
      refine lv_iconst (v := 1) hx hb dX0_know_20 (by decide) ?_
      refine lv_aload_n hx hb dX0_know_21 rfl (lv_at hl 1 rfl) ?_
      refine va_get (D := (g.1, g.2.1)) (ci := 0) (v := .ref (ad 20)) (C := RX0) (T := TX0) (N := 20) hx hb hts in_X0 hown hK hP 0 rfl rfl 3 (by decide) (hts _ q273) (fun _ h9 => h9) rfl dX0_know_22 ?_
      refine lv_iconst (v := 0) hx hb dX0_know_25 (by decide) ?_
      refine lv_bipush (v := 9) hx hb dX0_know_26 (by decide) ?_
      obtain ⟨hg_5, hf⟩ := sm_gd_e hf
      refine va_copyq (C := RX2) hx hb (hml.trans hl.1.symm) hown (hts _ q620) (hts _ q622) (hts _ q621) (hts _ q82) hK hP hD hS 20 20 4 4 rfl rfl rfl rfl (by decide) (by decide) (by decide) (by decide) (by decide) (sm_hel hg_5 hK hP) (fun comp c0 h1 h2 => by cases h1.symm.trans h2; exact va_asg _ _) (Nat.le_of_ble_eq_true rfl) (Nat.le_of_ble_eq_true rfl) dX0_know_28 (fun H locs hP hD hS => ?_)
      obtain ⟨S_6, eS_6, hf⟩ := sm_lt_e hf
      have hP : PP g (WX g ad S_6) H := by rw [eS_6]; exact sm_rot1 hP
      have hD : va_D (AX ad) (WX g ad S_6) := by rw [eS_6]; exact sm_dX (sm_rot1D hD)
      refine lv_aload_n hx hb dX0_know_31 rfl (lv_at hl 1 rfl) ?_
      refine va_get (D := (g.1, g.2.1)) (ci := 0) (v := .ref (ad 20)) (C := RX0) (T := TX0) (N := 20) hx hb hts in_X0 hown hK hP 0 rfl rfl 3 (by decide) (hts _ q273) (fun _ h9 => h9) rfl dX0_know_32 ?_
      refine lv_bipush (v := 9) hx hb dX0_know_35 (by decide) ?_
      refine lv_aload_n hx hb dX0_know_37 rfl (lv_at hl 0 rfl) ?_
      refine va_astq (r := (RX2, TX2, 7)) (i := 9) hx hb hK hP hD hS 20 4 (29 + 4 * (S.2.2.2.2.2 0)) 2 rfl rfl (sm_icell (of_decide_eq_true hg_4)) rfl (sm_in rfl) dX0_know_38 (fun H locs hP hD hS => ?_)
      obtain ⟨S_7, eS_7, hf⟩ := sm_lt_e hf
      have hP : PP g (WX g ad S_7) H := by rw [eS_7]; exact sm_rot2 hP
      have hD : va_D (AX ad) (WX g ad S_7) := by rw [eS_7]; exact sm_dX (sm_rot2D hD)
      refine lv_aload_n hx hb dX0_know_39 rfl (lv_at hl 1 rfl) ?_
      refine lv_dup hx hb dX0_know_40 rfl ?_
      refine va_get (D := (g.1, g.2.1)) (ci := 0) (v := .int (S_7.1 4)) (C := RX0) (T := TX0) (N := 20) hx hb hts in_X0 hown hK hP 0 rfl rfl 4 (by decide) (hts _ q274) (fun _ h9 => h9) rfl dX0_know_41 ?_
      refine lv_iconst (v := 1) hx hb dX0_know_44 (by decide) ?_
      refine lv_isub hx hb dX0_know_45 ?_
      refine va_put (D := (g.1, g.2.1)) (ci := 0) (v := .int ((S_7.1 4) - 1)) (ty := .int) (C := RX0) (T := TX0) (N := 20) hx hb hts in_X0 tyX0 tyX0_ok nmX0 hown hK hP hD hS 0 rfl rfl 4 (by decide) (hts _ q274) (fun _ h9 => h9) rfl (by decide +kernel) rfl rfl (Nat.le_of_ble_eq_true rfl) dX0_know_46 (fun H locs hP hD hS => ?_)
      obtain ⟨S_8, eS_8, hf⟩ := sm_lt_e hf
      have hP : PP g (WX g ad S_8) H := by rw [eS_8]; exact pxf4 hP
      have hD : va_D (AX ad) (WX g ad S_8) := by rw [eS_8]; exact dxf4 hD
      cases hf
      exact hj_2 _ _ _ hP hD hS (lv_sub hl [1] rfl)
  intro H locs ls hP hD hS hl
  have hf := hf0
  refine lv_aload_n hx hb dX0_know_49 rfl (lv_at hl 0 rfl) ?_
  refine va_get (D := (g.1, g.2.1)) (ci := 0) (v := .ref (ad 20)) (C := RX0) (T := TX0) (N := 20) hx hb hts in_X0 hown hK hP 0 rfl rfl 3 (by decide) (hts _ q273) (fun _ h9 => h9) rfl dX0_know_50 ?_
  refine lv_aload_n hx hb dX0_know_53 rfl (lv_at hl 0 rfl) ?_
  refine va_get (D := (g.1, g.2.1)) (ci := 0) (v := .int (S_1.1 4)) (C := RX0) (T := TX0) (N := 20) hx hb hts in_X0 hown hK hP 0 rfl rfl 4 (by decide) (hts _ q274) (fun _ h9 => h9) rfl dX0_know_54 ?_
  obtain ⟨hg, hf⟩ := sm_gd_e hf
  have hi_9 := sm_lt_in (sm_in hg)
  refine va_aldq hx hb hK hP 20 4 rfl rfl (sm_in hg) dX0_know_57 ?_
  obtain ⟨hg_10, hf⟩ := sm_gd_e hf
  refine lv_aload_n hx hb dX0_know_58 rfl (lv_at hl 0 rfl) ?_
  refine va_get (D := (g.1, g.2.1)) (ci := 0) (v := .ref (ad 29)) (C := RX0) (T := TX0) (N := 20) hx hb hts in_X0 hown hK hP 0 rfl rfl 1 (by decide) (hts _ q271) (fun _ h9 => h9) rfl dX0_know_59 ?_
  obtain ⟨hg_11, hf⟩ := sm_gd_e hf
  obtain ⟨T_12, h_13, hf⟩ := sm_b1_e hf
  refine va_callv (va_runV (As := [.ref (ad 29)]) (rest := []) ⟨hx, hb, hml, hown, hts⟩ (wX2_copyOf l g (ai ad (S_1.2.2.2.2.2 ((S_1.1 4).toNatClampNeg))) (ai ad 0) (S_1.2.2.1 0) (S_1.2.2.1 (S_1.2.2.2.2.2 ((S_1.1 4).toNatClampNeg)))  T_12 h_13) (cwV 1 hts (lw_V q623 q624 q625 q62 q626) rfl rfl rfl (by decide +kernel) ⟨Nat.le_of_ble_eq_true rfl, Nat.le_of_ble_eq_true rfl⟩) (sm_pe hE (sm_pII (j := (S_1.2.2.2.2.2 ((S_1.1 4).toNatClampNeg))) (i := 0) (of_decide_eq_true hg_10) (by decide) hP) (sm_dII (j := (S_1.2.2.2.2.2 ((S_1.1 4).toNatClampNeg))) (i := 0) (of_decide_eq_true hg_10) (by decide) (of_decide_eq_true hg_11) (sm_DX.mp hD).1) (va_recv hK (sm_pII (j := (S_1.2.2.2.2.2 ((S_1.1 4).toNatClampNeg))) (i := 0) (of_decide_eq_true hg_10) (by decide) hP) (ci := 2) (q0 := 0) rfl rfl)) rfl rfl hl.1 rfl (lv_room (Nat.le_of_ble_eq_true rfl)) dX0_know_62 ⟨Nat.le_of_ble_eq_true rfl, Nat.le_of_ble_eq_true rfl⟩) hS (fun q _ h => (sm_aII (j := (S_1.2.2.2.2.2 ((S_1.1 4).toNatClampNeg))) (i := 0) (of_decide_eq_true hg_10) (by decide) q h)) (sm_aII (j := (S_1.2.2.2.2.2 ((S_1.1 4).toNatClampNeg))) (i := 0) (of_decide_eq_true hg_10) (by decide)) (fun u t H locs ht hvm er_14 hB hz hk hS => ?_)
  rw [ht] at hB
  obtain ⟨S_16, eS_16, hf⟩ := sm_lt_e hf
  have hP : PP g (WX g ad S_16) H := by rw [eS_16]; exact sm_xiII (j := (S_1.2.2.2.2.2 ((S_1.1 4).toNatClampNeg))) (i0 := 0) (of_decide_eq_true hg_10) (by decide) (of_decide_eq_true hg_11) (sm_DX.mp hD).1 hP hk hB.1
  have hD : va_D (AX ad) (WX g ad S_16) := by rw [eS_16]; exact sm_dX hD
  refine lv_aload_n hx hb dX0_know_65 rfl (lv_at hl 0 rfl) ?_
  refine lv_dup hx hb dX0_know_66 rfl ?_
  refine va_get (D := (g.1, g.2.1)) (ci := 0) (v := .int (S_16.1 4)) (C := RX0) (T := TX0) (N := 20) hx hb hts in_X0 hown hK hP 0 rfl rfl 4 (by decide) (hts _ q274) (fun _ h9 => h9) rfl dX0_know_67 ?_
  refine lv_iconst (v := 1) hx hb dX0_know_70 (by decide) ?_
  refine lv_iadd hx hb dX0_know_71 ?_
  refine va_put (D := (g.1, g.2.1)) (ci := 0) (v := .int ((S_16.1 4) + 1)) (ty := .int) (C := RX0) (T := TX0) (N := 20) hx hb hts in_X0 tyX0 tyX0_ok nmX0 hown hK hP hD hS 0 rfl rfl 4 (by decide) (hts _ q274) (fun _ h9 => h9) rfl (by decide +kernel) rfl rfl (Nat.le_of_ble_eq_true rfl) dX0_know_72 (fun H locs hP hD hS => ?_)
  obtain ⟨S_17, eS_17, hf⟩ := sm_lt_e hf
  have hP : PP g (WX g ad S_17) H := by rw [eS_17]; exact pxf4 hP
  have hD : va_D (AX ad) (WX g ad S_17) := by rw [eS_17]; exact dxf4 hD
  have hf := Option.some.inj hf
  rw [← hQ]
  exact W.vret hx hb hr (fun t ht hW => ⟨⟨(), rfl, trivial, by rw [ht, ← hf]; exact hP, by rw [← hf]; exact hD⟩, hS.F ht⟩) hS.2.2 dX0_know_75
abbrev rX0_puts : Room := { frames := 3, cells := 0, slots := 0, locals := 102 }
set_option maxHeartbeats 4000000 in
theorem wX0_puts (l : Launch) (g : GG) (ad : Nat → Nat) (S : XS) (a1 : Int32) (a2 : Int32) (Sf : XS) (rf : Int32) (hf : fX0_puts S a1 a2 = some (Sf, rf)) : Met l yX0_puts (ws_ yX0_puts cX0_puts 3 (some .int)) rX0_puts (va_Pc [.ref (ad 0), .int a1, .int a2] (fun Ux => PP g (WX g ad S) Ux.heap ∧ EV g Ux ∧ va_D (AX ad) (WX g ad S))) (va_Qi (fun y (_ : Unit) => y = rf) (fun _ t => PP g (WX g ad Sf) t.heap ∧ va_D (AX ad) (WX g ad Sf)) (AX ad)) 0 0 (AX ad) := by
  refine sm_st (by decide) ?_
  intro p e s m args below meth c hx hb hr hlocks hml hown hnm hts hv
  obtain ⟨hargs, hP, hE, hD⟩ := hv
  obtain ⟨hK, hN⟩ := id hE
  have hS : va_S (AX ad) s.heap s.heap [] := va_S.rf
  have hown : s.vm.findClass RX0 = some m.cls := hown
  refine sm_en _ (Nat.le_of_ble_eq_true rfl) hargs (fun ls hl => ?_)
  have hl : lv_has ls 3 [(0, .ref (ad 0)), (1, .int a1), (2, .int a2)] := hl
  generalize hQ : MQ below _ args s _ _ _ = Q
  unfold fX0_puts at hf
  refine lv_aload_n hx hb dX0_puts_0 rfl (lv_at hl 0 rfl) ?_
  refine lv_iload_n hx hb dX0_puts_1 rfl (lv_at hl 1 rfl) ?_
  refine vp_callSi (W.runV (As := [.int a1]) (rest := []) ⟨hx, hb, hml, hown, hts⟩ (wX0_isTraveller l g ad S a1 (fX0_isTraveller S a1) rfl) (cwV 1 hts (lw_V q580 q582 qs7 q60 q583) rfl rfl rfl (by decide +kernel) ⟨Nat.le_of_ble_eq_true rfl, Nat.le_of_ble_eq_true rfl⟩) (sm_pv hE hP (va_recv hK hP (ci := 0) (q0 := 0) rfl rfl)) rfl rfl hl.1 rfl (lv_room (Nat.le_of_ble_eq_true rfl)) dX0_puts_2 ⟨Nat.le_of_ble_eq_true rfl, Nat.le_of_ble_eq_true rfl⟩) (fun r_2 er_1 => ?_)
  have er_1 := er_1.symm
  subst er_1
  refine lv_if_eq (tgt := 16) hx hb dX0_puts_5 (by decide) (fun c_3 => ?_) (fun c_3 => ?_)
  · have hf := (if_pos c_3).symm.trans hf
    refine lv_iconst (v := (-1)) hx hb dX0_puts_16 (by decide) ?_
    have hf := Option.some.inj hf
    rw [← hQ]
    have hf := Prod.mk.inj hf
    exact W.iret (v := (-1)) hx hb hr (fun t ht hW => ⟨⟨_, (), rfl, hf.2, by rw [ht, ← hf.1]; exact hP, by rw [← hf.1]; exact hD⟩, hS.F ht⟩) hS.2.2 dX0_puts_17
  · have hf := (if_neg c_3).symm.trans hf
    refine lv_aload_n hx hb dX0_puts_8 rfl (lv_at hl 0 rfl) ?_
    refine lv_iload_n hx hb dX0_puts_9 rfl (lv_at hl 2 rfl) ?_
    refine vp_callSi (W.runV (As := [.int a2]) (rest := []) ⟨hx, hb, hml, hown, hts⟩ (wX0_isRow l g ad S a2 (fX0_isRow S a2) rfl) (cwV 1 hts (lw_V q612 q614 qs9 q60 q615) rfl rfl rfl (by decide +kernel) ⟨Nat.le_of_ble_eq_true rfl, Nat.le_of_ble_eq_true rfl⟩) (sm_pv hE hP (va_recv hK hP (ci := 0) (q0 := 0) rfl rfl)) rfl rfl hl.1 rfl (lv_room (Nat.le_of_ble_eq_true rfl)) dX0_puts_10 ⟨Nat.le_of_ble_eq_true rfl, Nat.le_of_ble_eq_true rfl⟩) (fun r_5 er_4 => ?_)
    have er_4 := er_4.symm
    subst er_4
    refine lv_if_ne (tgt := 18) hx hb dX0_puts_13 (by decide) (fun c_6 => ?_) (fun c_6 => ?_)
    · have hf := (if_neg c_6).symm.trans hf
      refine lv_aload_n hx hb dX0_puts_18 rfl (lv_at hl 0 rfl) ?_
      refine va_get (D := (g.1, g.2.1)) (ci := 0) (v := .ref (ad 29)) (C := RX0) (T := TX0) (N := 20) hx hb hts in_X0 hown hK hP 0 rfl rfl 1 (by decide) (hts _ q271) (fun _ h9 => h9) rfl dX0_puts_19 ?_
      refine va_getN (D := (g.1, g.2.1)) (ci := 2) (v := .int ((S.2.2.1 0).1 0)) (C := RX2) (T := TX2) (N := 7) hx hb hts in_X2 hown hK hP 29 rfl rfl 0 (by decide) (va_Nw.use rfl (hN _ q161 rfl)) (fun _ h9 => h9) rfl dX0_puts_22 ?_
      refine lv_aload_n hx hb dX0_puts_25 rfl (lv_at hl 0 rfl) ?_
      refine va_get (D := (g.1, g.2.1)) (ci := 0) (v := .ref (ad 1)) (C := RX0) (T := TX0) (N := 20) hx hb hts in_X0 hown hK hP 0 rfl rfl 0 (by decide) (hts _ q269) (fun _ h9 => h9) rfl dX0_puts_26 ?_
      refine va_getN (D := (g.1, g.2.1)) (ci := 1) (v := .ref (ad 3)) (C := RX1) (T := TX1) (N := 9) hx hb hts in_X1 hown hK hP 1 rfl rfl 1 (by decide) (va_Nw.use rfl (hN _ q104 rfl)) (fun _ h9 => h9) rfl dX0_puts_29 ?_
      refine lv_iload_n hx hb dX0_puts_32 rfl (lv_at hl 1 rfl) ?_
      obtain ⟨hg, hf⟩ := sm_gd_e hf
      refine va_iald hx hb hK hP 3 0 rfl rfl (sm_in hg) dX0_puts_33 ?_
      refine lv_icmp_lt (tgt := 66) hx hb dX0_puts_34 (by decide) (fun c_7 => ?_) (fun c_7 => ?_)
      · have hf := (if_pos c_7).symm.trans hf
        refine lv_bipush (v := (-2)) hx hb dX0_puts_66 (by decide) ?_
        have hf := Option.some.inj hf
        rw [← hQ]
        have hf := Prod.mk.inj hf
        exact W.iret (v := (-2)) hx hb hr (fun t ht hW => ⟨⟨_, (), rfl, hf.2, by rw [ht, ← hf.1]; exact hP, by rw [← hf.1]; exact hD⟩, hS.F ht⟩) hS.2.2 dX0_puts_68
      · have hf := (if_neg c_7).symm.trans hf
        refine lv_aload_n hx hb dX0_puts_37 rfl (lv_at hl 0 rfl) ?_
        refine va_get (D := (g.1, g.2.1)) (ci := 0) (v := .ref (ad 29)) (C := RX0) (T := TX0) (N := 20) hx hb hts in_X0 hown hK hP 0 rfl rfl 1 (by decide) (hts _ q271) (fun _ h9 => h9) rfl dX0_puts_38 ?_
        refine va_getN (D := (g.1, g.2.1)) (ci := 2) (v := .ref (ad 30)) (C := RX2) (T := TX2) (N := 7) hx hb hts in_X2 hown hK hP 29 rfl rfl 3 (by decide) (va_Nw.use rfl (hN _ q168 rfl)) (fun _ h9 => h9) rfl dX0_puts_41 ?_
        refine lv_iload_n hx hb dX0_puts_44 rfl (lv_at hl 1 rfl) ?_
        obtain ⟨hg, hf⟩ := sm_gd_e hf
        refine va_iald hx hb hK hP 30 0 rfl rfl (sm_in hg) dX0_puts_45 ?_
        refine lv_bipush (v := (-9)) hx hb dX0_puts_46 (by decide) ?_
        refine lv_icmp_ne (tgt := 66) hx hb dX0_puts_48 (by decide) (fun c_8 => ?_) (fun c_8 => ?_)
        · have hf := (if_neg c_8).symm.trans hf
          refine lv_bipush (v := (-2)) hx hb dX0_puts_66 (by decide) ?_
          have hf := Option.some.inj hf
          rw [← hQ]
          have hf := Prod.mk.inj hf
          exact W.iret (v := (-2)) hx hb hr (fun t ht hW => ⟨⟨_, (), rfl, hf.2, by rw [ht, ← hf.1]; exact hP, by rw [← hf.1]; exact hD⟩, hS.F ht⟩) hS.2.2 dX0_puts_68
        · have hf := (if_pos c_8).symm.trans hf
          refine lv_aload_n hx hb dX0_puts_51 rfl (lv_at hl 0 rfl) ?_
          refine va_get (D := (g.1, g.2.1)) (ci := 0) (v := .ref (ad 29)) (C := RX0) (T := TX0) (N := 20) hx hb hts in_X0 hown hK hP 0 rfl rfl 1 (by decide) (hts _ q271) (fun _ h9 => h9) rfl dX0_puts_52 ?_
          refine va_getN (D := (g.1, g.2.1)) (ci := 2) (v := .int ((S.2.2.1 0).1 2)) (C := RX2) (T := TX2) (N := 7) hx hb hts in_X2 hown hK hP 29 rfl rfl 2 (by decide) (va_Nw.use rfl (hN _ q166 rfl)) (fun _ h9 => h9) rfl dX0_puts_55 ?_
          refine lv_iload_n hx hb dX0_puts_58 rfl (lv_at hl 1 rfl) ?_
          refine lv_ishr hx hb dX0_puts_59 ?_
          refine lv_iconst (v := 1) hx hb dX0_puts_60 (by decide) ?_
          refine lv_iand hx hb dX0_puts_61 ?_
          refine lv_iconst (v := 1) hx hb dX0_puts_62 (by decide) ?_
          refine lv_icmp_ne (tgt := 69) hx hb dX0_puts_63 (by decide) (fun c_9 => ?_) (fun c_9 => ?_)
          · have hf := (if_neg c_9).symm.trans hf
            refine lv_aload_n hx hb dX0_puts_69 rfl (lv_at hl 0 rfl) ?_
            obtain ⟨S_10, h_11, hf⟩ := sm_b1_e hf
            refine va_callv (va_runV (As := []) (rest := []) ⟨hx, hb, hml, hown, hts⟩ (wX0_know l g ad S  S_10 h_11) (cwV 0 hts (lw_V q616 q618 qs10 q60 q619) rfl rfl rfl (by decide +kernel) ⟨Nat.le_of_ble_eq_true rfl, Nat.le_of_ble_eq_true rfl⟩) (sm_pe hE hP hD (va_recv hK hP (ci := 0) (q0 := 0) rfl rfl)) rfl rfl hl.1 rfl (lv_room (Nat.le_of_ble_eq_true rfl)) dX0_puts_70 ⟨Nat.le_of_ble_eq_true rfl, Nat.le_of_ble_eq_true rfl⟩) hS (fun _ _ h => h) (fun _ h => h) (fun u t H locs ht hvm er_12 hB hz hk hS => ?_)
            obtain ⟨hP, hD⟩ := hB
            rw [ht] at hP
            refine lv_aload_n hx hb dX0_puts_73 rfl (lv_at hl 0 rfl) ?_
            refine va_get (D := (g.1, g.2.1)) (ci := 0) (v := .ref (ad 29)) (C := RX0) (T := TX0) (N := 20) hx hb hts in_X0 hown hK hP 0 rfl rfl 1 (by decide) (hts _ q271) (fun _ h9 => h9) rfl dX0_puts_74 ?_
            refine lv_iload_n hx hb dX0_puts_77 rfl (lv_at hl 1 rfl) ?_
            refine lv_iload_n hx hb dX0_puts_78 rfl (lv_at hl 2 rfl) ?_
            obtain ⟨T_14, r_16, h_15, hf⟩ := sm_b2_e hf
            refine va_calli (va_runV (As := [.int a1, .int a2]) (rest := []) ⟨hx, hb, hml, hown, hts⟩ (wX2_put l g (ai ad 0) (S_10.2.2.1 0) a1 a2 T_14 r_16 h_15) (cwV 2 hts (lw_V q628 q629 q630 q62 q631) rfl rfl rfl (by decide +kernel) ⟨Nat.le_of_ble_eq_true rfl, Nat.le_of_ble_eq_true rfl⟩) (sm_pe hE (sm_pI (j := 0) (by decide) hP) (sm_dI (j := 0) (by decide) (sm_DX.mp hD).1) (va_recv hK (sm_pI (j := 0) (by decide) hP) (ci := 2) (q0 := 0) rfl rfl)) rfl rfl hl.1 rfl (lv_room (Nat.le_of_ble_eq_true rfl)) dX0_puts_79 ⟨Nat.le_of_ble_eq_true rfl, Nat.le_of_ble_eq_true rfl⟩) hS (fun q _ h => (sm_aI (j := 0) (by decide) q h)) (sm_aI (j := 0) (by decide)) (fun r_18 u t H locs ht hvm er_17 hB hz hk hS => ?_)
            have er_17 := er_17.symm
            subst er_17
            rw [ht] at hB
            obtain ⟨S_19, eS_19, hf⟩ := sm_lt_e hf
            have hP : PP g (WX g ad S_19) H := by rw [eS_19]; exact sm_xiI (j := 0) (by decide) (sm_DX.mp hD).1 hP hk hB.1
            have hD : va_D (AX ad) (WX g ad S_19) := by rw [eS_19]; exact sm_dX hD
            have hf := Option.some.inj hf
            rw [← hQ]
            have hf := Prod.mk.inj hf
            exact W.iret (v := r_16) hx hb hr (fun t ht hW => ⟨⟨_, (), rfl, hf.2, by rw [ht, ← hf.1]; exact hP, by rw [← hf.1]; exact hD⟩, hS.F ht⟩) hS.2.2 dX0_puts_82
          · have hf := (if_pos c_9).symm.trans hf
            refine lv_bipush (v := (-2)) hx hb dX0_puts_66 (by decide) ?_
            have hf := Option.some.inj hf
            rw [← hQ]
            have hf := Prod.mk.inj hf
            exact W.iret (v := (-2)) hx hb hr (fun t ht hW => ⟨⟨_, (), rfl, hf.2, by rw [ht, ← hf.1]; exact hP, by rw [← hf.1]; exact hD⟩, hS.F ht⟩) hS.2.2 dX0_puts_68
    · have hf := (if_pos c_6).symm.trans hf
      refine lv_iconst (v := (-1)) hx hb dX0_puts_16 (by decide) ?_
      have hf := Option.some.inj hf
      rw [← hQ]
      have hf := Prod.mk.inj hf
      exact W.iret (v := (-1)) hx hb hr (fun t ht hW => ⟨⟨_, (), rfl, hf.2, by rw [ht, ← hf.1]; exact hP, by rw [← hf.1]; exact hD⟩, hS.F ht⟩) hS.2.2 dX0_puts_17
abbrev rX0_day : Room := { frames := 3, cells := 0, slots := 0, locals := 102 }
set_option maxHeartbeats 4000000 in
theorem wX0_day (l : Launch) (g : GG) (ad : Nat → Nat) (S : XS) (Sf : XS) (rf : Int32) (hf : fX0_day S = some (Sf, rf)) : Met l yX0_day (ws_ yX0_day cX0_day 1 (some .int)) rX0_day (va_Pc [.ref (ad 0)] (fun Ux => PP g (WX g ad S) Ux.heap ∧ EV g Ux ∧ va_D (AX ad) (WX g ad S))) (va_Qi (fun y (_ : Unit) => y = rf) (fun _ t => PP g (WX g ad Sf) t.heap ∧ va_D (AX ad) (WX g ad Sf)) (AX ad)) 0 0 (AX ad) := by
  refine sm_st (by decide) ?_
  intro p e s m args below meth c hx hb hr hlocks hml hown hnm hts hv
  obtain ⟨hargs, hP, hE, hD⟩ := hv
  obtain ⟨hK, hN⟩ := id hE
  have hS : va_S (AX ad) s.heap s.heap [] := va_S.rf
  have hown : s.vm.findClass RX0 = some m.cls := hown
  refine sm_en _ (Nat.le_of_ble_eq_true rfl) hargs (fun ls hl => ?_)
  have hl : lv_has ls 1 [(0, .ref (ad 0))] := hl
  generalize hQ : MQ below _ args s _ _ _ = Q
  unfold fX0_day at hf
  refine lv_aload_n hx hb dX0_day_0 rfl (lv_at hl 0 rfl) ?_
  refine va_get (D := (g.1, g.2.1)) (ci := 0) (v := .ref (ad 29)) (C := RX0) (T := TX0) (N := 20) hx hb hts in_X0 hown hK hP 0 rfl rfl 1 (by decide) (hts _ q271) (fun _ h9 => h9) rfl dX0_day_1 ?_
  refine va_getN (D := (g.1, g.2.1)) (ci := 2) (v := .int ((S.2.2.1 0).1 0)) (C := RX2) (T := TX2) (N := 7) hx hb hts in_X2 hown hK hP 29 rfl rfl 0 (by decide) (va_Nw.use rfl (hN _ q161 rfl)) (fun _ h9 => h9) rfl dX0_day_4 ?_
  refine lv_sipush (v := 200) hx hb dX0_day_7 (by decide) ?_
  refine lv_icmp_ne (tgt := 16) hx hb dX0_day_10 (by decide) (fun c_1 => ?_) (fun c_1 => ?_)
  · have hf := (if_neg c_1).symm.trans hf
    refine lv_aload_n hx hb dX0_day_16 rfl (lv_at hl 0 rfl) ?_
    obtain ⟨S_2, h_3, hf⟩ := sm_b1_e hf
    refine va_callv (va_runV (As := []) (rest := []) ⟨hx, hb, hml, hown, hts⟩ (wX0_know l g ad S  S_2 h_3) (cwV 0 hts (lw_V q616 q618 qs10 q60 q619) rfl rfl rfl (by decide +kernel) ⟨Nat.le_of_ble_eq_true rfl, Nat.le_of_ble_eq_true rfl⟩) (sm_pe hE hP hD (va_recv hK hP (ci := 0) (q0 := 0) rfl rfl)) rfl rfl hl.1 rfl (lv_room (Nat.le_of_ble_eq_true rfl)) dX0_day_17 ⟨Nat.le_of_ble_eq_true rfl, Nat.le_of_ble_eq_true rfl⟩) hS (fun _ _ h => h) (fun _ h => h) (fun u t H locs ht hvm er_4 hB hz hk hS => ?_)
    obtain ⟨hP, hD⟩ := hB
    rw [ht] at hP
    refine lv_aload_n hx hb dX0_day_20 rfl (lv_at hl 0 rfl) ?_
    refine va_get (D := (g.1, g.2.1)) (ci := 0) (v := .ref (ad 29)) (C := RX0) (T := TX0) (N := 20) hx hb hts in_X0 hown hK hP 0 rfl rfl 1 (by decide) (hts _ q271) (fun _ h9 => h9) rfl dX0_day_21 ?_
    refine lv_aload_n hx hb dX0_day_24 rfl (lv_at hl 0 rfl) ?_
    refine va_get (D := (g.1, g.2.1)) (ci := 0) (v := .ref (ad 1)) (C := RX0) (T := TX0) (N := 20) hx hb hts in_X0 hown hK hP 0 rfl rfl 0 (by decide) (hts _ q269) (fun _ h9 => h9) rfl dX0_day_25 ?_
    obtain ⟨T_6, h_7, hf⟩ := sm_b1_e hf
    refine va_callv (va_runV (As := [.ref (ad 1)]) (rest := []) ⟨hx, hb, hml, hown, hts⟩ (wX2_pass l g (ai ad 0) (bd ad) S_2.2.2.2.2.1 (S_2.2.2.1 0)  T_6 h_7) (cwV 1 hts (lw_V q640 q641 q642 q62 q643) rfl rfl rfl (by decide +kernel) ⟨Nat.le_of_ble_eq_true rfl, Nat.le_of_ble_eq_true rfl⟩) (sm_pe hE (sm_pIB (j := 0) (by decide) hP) (sm_dIB (j := 0) (by decide) (sm_DX.mp hD).1) (va_recv hK (sm_pIB (j := 0) (by decide) hP) (ci := 2) (q0 := 0) rfl rfl)) rfl rfl hl.1 rfl (lv_room (Nat.le_of_ble_eq_true rfl)) dX0_day_28 ⟨Nat.le_of_ble_eq_true rfl, Nat.le_of_ble_eq_true rfl⟩) hS (fun q _ h => (sm_aIB (j := 0) (by decide) q h)) (sm_aIB (j := 0) (by decide)) (fun u t H locs ht hvm er_8 hB hz hk hS => ?_)
    rw [ht] at hB
    obtain ⟨S_10, eS_10, hf⟩ := sm_lt_e hf
    have hP : PP g (WX g ad S_10) H := by rw [eS_10]; exact sm_xiB (j := 0) (by decide) (sm_DX.mp hD).1 hP hk hB.1
    have hD : va_D (AX ad) (WX g ad S_10) := by rw [eS_10]; exact sm_dX hD
    refine lv_aload_n hx hb dX0_day_31 rfl (lv_at hl 0 rfl) ?_
    refine va_get (D := (g.1, g.2.1)) (ci := 0) (v := .ref (ad 29)) (C := RX0) (T := TX0) (N := 20) hx hb hts in_X0 hown hK hP 0 rfl rfl 1 (by decide) (hts _ q271) (fun _ h9 => h9) rfl dX0_day_32 ?_
    refine lv_aload_n hx hb dX0_day_35 rfl (lv_at hl 0 rfl) ?_
    refine va_get (D := (g.1, g.2.1)) (ci := 0) (v := .ref (ad 1)) (C := RX0) (T := TX0) (N := 20) hx hb hts in_X0 hown hK hP 0 rfl rfl 0 (by decide) (hts _ q269) (fun _ h9 => h9) rfl dX0_day_36 ?_
    obtain ⟨r_11, h_12, hf⟩ := sm_b1_e hf
    refine vp_callSi (W.runV (As := [.ref (ad 1)]) (rest := []) ⟨hx, hb, hml, hown, hts⟩ (wX2_leavers l g (ai ad 0) (bd ad) S_10.2.2.2.2.1 (S_10.2.2.1 0)  r_11 h_12) (cwV 1 hts (lw_V q596 q597 q598 q62 q599) rfl rfl rfl (by decide +kernel) ⟨Nat.le_of_ble_eq_true rfl, Nat.le_of_ble_eq_true rfl⟩) (sm_pv hE (sm_pIB (j := 0) (by decide) hP) (va_recv hK (sm_pIB (j := 0) (by decide) hP) (ci := 2) (q0 := 0) rfl rfl)) rfl rfl hl.1 rfl (lv_room (Nat.le_of_ble_eq_true rfl)) dX0_day_39 ⟨Nat.le_of_ble_eq_true rfl, Nat.le_of_ble_eq_true rfl⟩) (fun r_14 er_13 => ?_)
    have er_13 := er_13.symm
    subst er_13
    have hf := Option.some.inj hf
    rw [← hQ]
    have hf := Prod.mk.inj hf
    exact W.iret (v := r_11) hx hb hr (fun t ht hW => ⟨⟨_, (), rfl, hf.2, by rw [ht, ← hf.1]; exact hP, by rw [← hf.1]; exact hD⟩, hS.F ht⟩) hS.2.2 dX0_day_42
  · have hf := (if_pos c_1).symm.trans hf
    refine lv_bipush (v := (-2)) hx hb dX0_day_13 (by decide) ?_
    have hf := Option.some.inj hf
    rw [← hQ]
    have hf := Prod.mk.inj hf
    exact W.iret (v := (-2)) hx hb hr (fun t ht hW => ⟨⟨_, (), rfl, hf.2, by rw [ht, ← hf.1]; exact hP, by rw [← hf.1]; exact hD⟩, hS.F ht⟩) hS.2.2 dX0_day_15
abbrev rX0_sails : Room := { frames := 3, cells := 0, slots := 0, locals := 102 }
set_option maxHeartbeats 4000000 in
theorem wX0_sails (l : Launch) (g : GG) (ad : Nat → Nat) (S : XS) (a1 : Int32) (Sf : XS) (rf : Int32) (hf : fX0_sails S a1 = some (Sf, rf)) : Met l yX0_sails (ws_ yX0_sails cX0_sails 2 (some .int)) rX0_sails (va_Pc [.ref (ad 0), .int a1] (fun Ux => PP g (WX g ad S) Ux.heap ∧ EV g Ux ∧ va_D (AX ad) (WX g ad S))) (va_Qi (fun y (_ : Unit) => y = rf) (fun _ t => PP g (WX g ad Sf) t.heap ∧ va_D (AX ad) (WX g ad Sf)) (AX ad)) 0 0 (AX ad) := by
  refine sm_st (by decide) ?_
  intro p e s m args below meth c hx hb hr hlocks hml hown hnm hts hv
  obtain ⟨hargs, hP, hE, hD⟩ := hv
  obtain ⟨hK, hN⟩ := id hE
  have hS : va_S (AX ad) s.heap s.heap [] := va_S.rf
  have hown : s.vm.findClass RX0 = some m.cls := hown
  refine sm_en _ (Nat.le_of_ble_eq_true rfl) hargs (fun ls hl => ?_)
  have hl : lv_has ls 2 [(0, .ref (ad 0)), (1, .int a1)] := hl
  generalize hQ : MQ below _ args s _ _ _ = Q
  unfold fX0_sails at hf
  refine lv_aload_n hx hb dX0_sails_0 rfl (lv_at hl 0 rfl) ?_
  refine lv_iload_n hx hb dX0_sails_1 rfl (lv_at hl 1 rfl) ?_
  refine vp_callSi (W.runV (As := [.int a1]) (rest := []) ⟨hx, hb, hml, hown, hts⟩ (wX0_isTraveller l g ad S a1 (fX0_isTraveller S a1) rfl) (cwV 1 hts (lw_V q580 q582 qs7 q60 q583) rfl rfl rfl (by decide +kernel) ⟨Nat.le_of_ble_eq_true rfl, Nat.le_of_ble_eq_true rfl⟩) (sm_pv hE hP (va_recv hK hP (ci := 0) (q0 := 0) rfl rfl)) rfl rfl hl.1 rfl (lv_room (Nat.le_of_ble_eq_true rfl)) dX0_sails_2 ⟨Nat.le_of_ble_eq_true rfl, Nat.le_of_ble_eq_true rfl⟩) (fun r_2 er_1 => ?_)
  have er_1 := er_1.symm
  subst er_1
  refine lv_if_ne (tgt := 10) hx hb dX0_sails_5 (by decide) (fun c_3 => ?_) (fun c_3 => ?_)
  · have hf := (if_neg c_3).symm.trans hf
    refine lv_aload_n hx hb dX0_sails_10 rfl (lv_at hl 0 rfl) ?_
    refine va_get (D := (g.1, g.2.1)) (ci := 0) (v := .ref (ad 29)) (C := RX0) (T := TX0) (N := 20) hx hb hts in_X0 hown hK hP 0 rfl rfl 1 (by decide) (hts _ q271) (fun _ h9 => h9) rfl dX0_sails_11 ?_
    refine lv_aload_n hx hb dX0_sails_14 rfl (lv_at hl 0 rfl) ?_
    refine va_get (D := (g.1, g.2.1)) (ci := 0) (v := .ref (ad 1)) (C := RX0) (T := TX0) (N := 20) hx hb hts in_X0 hown hK hP 0 rfl rfl 0 (by decide) (hts _ q269) (fun _ h9 => h9) rfl dX0_sails_15 ?_
    refine lv_iload_n hx hb dX0_sails_18 rfl (lv_at hl 1 rfl) ?_
    obtain ⟨r_4, h_5, hf⟩ := sm_b1_e hf
    refine vp_callSi (W.runV (As := [.ref (ad 1), .int a1]) (rest := []) ⟨hx, hb, hml, hown, hts⟩ (wX2_mayLeave l g (ai ad 0) (bd ad) S.2.2.2.2.1 (S.2.2.1 0) a1 r_4 h_5) (cwV 2 hts (lw_V q648 q601 q602 q62 q603) rfl rfl rfl (by decide +kernel) ⟨Nat.le_of_ble_eq_true rfl, Nat.le_of_ble_eq_true rfl⟩) (sm_pv hE (sm_pIB (j := 0) (by decide) hP) (va_recv hK (sm_pIB (j := 0) (by decide) hP) (ci := 2) (q0 := 0) rfl rfl)) rfl rfl hl.1 rfl (lv_room (Nat.le_of_ble_eq_true rfl)) dX0_sails_19 ⟨Nat.le_of_ble_eq_true rfl, Nat.le_of_ble_eq_true rfl⟩) (fun r_7 er_6 => ?_)
    have er_6 := er_6.symm
    subst er_6
    refine lv_if_eq (tgt := 42) hx hb dX0_sails_22 (by decide) (fun c_8 => ?_) (fun c_8 => ?_)
    · have hf := (if_pos c_8).symm.trans hf
      refine lv_bipush (v := (-2)) hx hb dX0_sails_42 (by decide) ?_
      have hf := Option.some.inj hf
      rw [← hQ]
      have hf := Prod.mk.inj hf
      exact W.iret (v := (-2)) hx hb hr (fun t ht hW => ⟨⟨_, (), rfl, hf.2, by rw [ht, ← hf.1]; exact hP, by rw [← hf.1]; exact hD⟩, hS.F ht⟩) hS.2.2 dX0_sails_44
    · have hf := (if_neg c_8).symm.trans hf
      refine lv_aload_n hx hb dX0_sails_25 rfl (lv_at hl 0 rfl) ?_
      refine va_get (D := (g.1, g.2.1)) (ci := 0) (v := .ref (ad 1)) (C := RX0) (T := TX0) (N := 20) hx hb hts in_X0 hown hK hP 0 rfl rfl 0 (by decide) (hts _ q269) (fun _ h9 => h9) rfl dX0_sails_26 ?_
      refine lv_aload_n hx hb dX0_sails_29 rfl (lv_at hl 0 rfl) ?_
      refine va_get (D := (g.1, g.2.1)) (ci := 0) (v := .ref (ad 29)) (C := RX0) (T := TX0) (N := 20) hx hb hts in_X0 hown hK hP 0 rfl rfl 1 (by decide) (hts _ q271) (fun _ h9 => h9) rfl dX0_sails_30 ?_
      refine va_getN (D := (g.1, g.2.1)) (ci := 2) (v := .int ((S.2.2.1 0).1 0)) (C := RX2) (T := TX2) (N := 7) hx hb hts in_X2 hown hK hP 29 rfl rfl 0 (by decide) (va_Nw.use rfl (hN _ q161 rfl)) (fun _ h9 => h9) rfl dX0_sails_33 ?_
      obtain ⟨r_9, h_10, hf⟩ := sm_b1_e hf
      refine vp_callSi (W.runV (As := [.int ((S.2.2.1 0).1 0)]) (rest := []) ⟨hx, hb, hml, hown, hts⟩ (wX1_isBoat l g (bd ad) S.2.2.2.2.1 ((S.2.2.1 0).1 0) r_9 h_10) (cwV 1 hts (lw_V q604 q605 q606 q61 q607) rfl rfl rfl (by decide +kernel) ⟨Nat.le_of_ble_eq_true rfl, Nat.le_of_ble_eq_true rfl⟩) (sm_pv hE (sm_pB hP) (va_recv hK (sm_pB hP) (ci := 1) (q0 := 0) rfl rfl)) rfl rfl hl.1 rfl (lv_room (Nat.le_of_ble_eq_true rfl)) dX0_sails_36 ⟨Nat.le_of_ble_eq_true rfl, Nat.le_of_ble_eq_true rfl⟩) (fun r_12 er_11 => ?_)
      have er_11 := er_11.symm
      subst er_11
      refine lv_if_ne (tgt := 45) hx hb dX0_sails_39 (by decide) (fun c_13 => ?_) (fun c_13 => ?_)
      · have hf := (if_neg c_13).symm.trans hf
        refine lv_aload_n hx hb dX0_sails_45 rfl (lv_at hl 0 rfl) ?_
        obtain ⟨S_14, h_15, hf⟩ := sm_b1_e hf
        refine va_callv (va_runV (As := []) (rest := []) ⟨hx, hb, hml, hown, hts⟩ (wX0_know l g ad S  S_14 h_15) (cwV 0 hts (lw_V q616 q618 qs10 q60 q619) rfl rfl rfl (by decide +kernel) ⟨Nat.le_of_ble_eq_true rfl, Nat.le_of_ble_eq_true rfl⟩) (sm_pe hE hP hD (va_recv hK hP (ci := 0) (q0 := 0) rfl rfl)) rfl rfl hl.1 rfl (lv_room (Nat.le_of_ble_eq_true rfl)) dX0_sails_46 ⟨Nat.le_of_ble_eq_true rfl, Nat.le_of_ble_eq_true rfl⟩) hS (fun _ _ h => h) (fun _ h => h) (fun u t H locs ht hvm er_16 hB hz hk hS => ?_)
        obtain ⟨hP, hD⟩ := hB
        rw [ht] at hP
        refine lv_aload_n hx hb dX0_sails_49 rfl (lv_at hl 0 rfl) ?_
        refine va_get (D := (g.1, g.2.1)) (ci := 0) (v := .ref (ad 29)) (C := RX0) (T := TX0) (N := 20) hx hb hts in_X0 hown hK hP 0 rfl rfl 1 (by decide) (hts _ q271) (fun _ h9 => h9) rfl dX0_sails_50 ?_
        refine lv_iload_n hx hb dX0_sails_53 rfl (lv_at hl 1 rfl) ?_
        obtain ⟨T_18, h_19, hf⟩ := sm_b1_e hf
        refine va_callv (va_runV (As := [.int a1]) (rest := []) ⟨hx, hb, hml, hown, hts⟩ (wX2_sail l g (ai ad 0) (S_14.2.2.1 0) a1 T_18 h_19) (cwV 1 hts (lw_V q649 q650 q651 q62 q652) rfl rfl rfl (by decide +kernel) ⟨Nat.le_of_ble_eq_true rfl, Nat.le_of_ble_eq_true rfl⟩) (sm_pe hE (sm_pI (j := 0) (by decide) hP) (sm_dI (j := 0) (by decide) (sm_DX.mp hD).1) (va_recv hK (sm_pI (j := 0) (by decide) hP) (ci := 2) (q0 := 0) rfl rfl)) rfl rfl hl.1 rfl (lv_room (Nat.le_of_ble_eq_true rfl)) dX0_sails_54 ⟨Nat.le_of_ble_eq_true rfl, Nat.le_of_ble_eq_true rfl⟩) hS (fun q _ h => (sm_aI (j := 0) (by decide) q h)) (sm_aI (j := 0) (by decide)) (fun u t H locs ht hvm er_20 hB hz hk hS => ?_)
        rw [ht] at hB
        obtain ⟨S_22, eS_22, hf⟩ := sm_lt_e hf
        have hP : PP g (WX g ad S_22) H := by rw [eS_22]; exact sm_xiI (j := 0) (by decide) (sm_DX.mp hD).1 hP hk hB.1
        have hD : va_D (AX ad) (WX g ad S_22) := by rw [eS_22]; exact sm_dX hD
        refine lv_aload_n hx hb dX0_sails_57 rfl (lv_at hl 0 rfl) ?_
        refine va_get (D := (g.1, g.2.1)) (ci := 0) (v := .ref (ad 29)) (C := RX0) (T := TX0) (N := 20) hx hb hts in_X0 hown hK hP 0 rfl rfl 1 (by decide) (hts _ q271) (fun _ h9 => h9) rfl dX0_sails_58 ?_
        refine va_getN (D := (g.1, g.2.1)) (ci := 2) (v := .int ((S_22.2.2.1 0).1 2)) (C := RX2) (T := TX2) (N := 7) hx hb hts in_X2 hown hK hP 29 rfl rfl 2 (by decide) (va_Nw.use rfl (hN _ q166 rfl)) (fun _ h9 => h9) rfl dX0_sails_61 ?_
        refine vp_callSi (W.runS (As := [.int ((S_22.2.2.1 0).1 2)]) (rest := []) ⟨hx, hb, hml, hown, hts⟩ (wJ10_bitCount l ((S_22.2.2.1 0).1 2) (fJ10_bitCount ((S_22.2.2.1 0).1 2)) rfl) (va_cwS 1 hts (lw_S q653 q654 q83 q655) rfl rfl rfl (by decide +kernel) ⟨Nat.le_of_ble_eq_true rfl, Nat.le_of_ble_eq_true rfl⟩) (sm_ps) rfl rfl hl.1 rfl (lv_room (Nat.le_of_ble_eq_true rfl)) dX0_sails_64 ⟨Nat.le_of_ble_eq_true rfl, Nat.le_of_ble_eq_true rfl⟩) (fun r_24 er_23 => ?_)
        have er_23 := er_23.symm
        subst er_23
        have hf := Option.some.inj hf
        rw [← hQ]
        have hf := Prod.mk.inj hf
        exact W.iret (v := fJ10_bitCount ((S_22.2.2.1 0).1 2)) hx hb hr (fun t ht hW => ⟨⟨_, (), rfl, hf.2, by rw [ht, ← hf.1]; exact hP, by rw [← hf.1]; exact hD⟩, hS.F ht⟩) hS.2.2 dX0_sails_67
      · have hf := (if_pos c_13).symm.trans hf
        refine lv_bipush (v := (-2)) hx hb dX0_sails_42 (by decide) ?_
        have hf := Option.some.inj hf
        rw [← hQ]
        have hf := Prod.mk.inj hf
        exact W.iret (v := (-2)) hx hb hr (fun t ht hW => ⟨⟨_, (), rfl, hf.2, by rw [ht, ← hf.1]; exact hP, by rw [← hf.1]; exact hD⟩, hS.F ht⟩) hS.2.2 dX0_sails_44
  · have hf := (if_pos c_3).symm.trans hf
    refine lv_iconst (v := (-1)) hx hb dX0_sails_8 (by decide) ?_
    have hf := Option.some.inj hf
    rw [← hQ]
    have hf := Prod.mk.inj hf
    exact W.iret (v := (-1)) hx hb hr (fun t ht hW => ⟨⟨_, (), rfl, hf.2, by rw [ht, ← hf.1]; exact hP, by rw [← hf.1]; exact hD⟩, hS.F ht⟩) hS.2.2 dX0_sails_9
abbrev rX0_undo : Room := { frames := 2, cells := 0, slots := 0, locals := 81 }
set_option maxHeartbeats 4000000 in
theorem wX0_undo (l : Launch) (g : GG) (ad : Nat → Nat) (S : XS) (Sf : XS) (rf : Int32) (hf : fX0_undo S = some (Sf, rf)) : Met l yX0_undo (ws_ yX0_undo cX0_undo 1 (some .int)) rX0_undo (va_Pc [.ref (ad 0)] (fun Ux => PP g (WX g ad S) Ux.heap ∧ EV g Ux ∧ va_D (AX ad) (WX g ad S))) (va_Qi (fun y (_ : Unit) => y = rf) (fun _ t => PP g (WX g ad Sf) t.heap ∧ va_D (AX ad) (WX g ad Sf)) (AX ad)) 0 0 (AX ad) := by
  refine sm_st (by decide) ?_
  intro p e s m args below meth c hx hb hr hlocks hml hown hnm hts hv
  obtain ⟨hargs, hP, hE, hD⟩ := hv
  obtain ⟨hK, hN⟩ := id hE
  have hS : va_S (AX ad) s.heap s.heap [] := va_S.rf
  have hown : s.vm.findClass RX0 = some m.cls := hown
  refine sm_en _ (Nat.le_of_ble_eq_true rfl) hargs (fun ls hl => ?_)
  have hl : lv_has ls 1 [(0, .ref (ad 0))] := hl
  generalize hQ : MQ below _ args s _ _ _ = Q
  unfold fX0_undo at hf
  refine lv_aload_n hx hb dX0_undo_0 rfl (lv_at hl 0 rfl) ?_
  refine va_get (D := (g.1, g.2.1)) (ci := 0) (v := .int (S.1 4)) (C := RX0) (T := TX0) (N := 20) hx hb hts in_X0 hown hK hP 0 rfl rfl 4 (by decide) (hts _ q274) (fun _ h9 => h9) rfl dX0_undo_1 ?_
  refine lv_if_ne (tgt := 10) hx hb dX0_undo_4 (by decide) (fun c_1 => ?_) (fun c_1 => ?_)
  · have hf := (if_neg c_1).symm.trans hf
    refine lv_aload_n hx hb dX0_undo_10 rfl (lv_at hl 0 rfl) ?_
    refine lv_dup hx hb dX0_undo_11 rfl ?_
    refine va_get (D := (g.1, g.2.1)) (ci := 0) (v := .int (S.1 4)) (C := RX0) (T := TX0) (N := 20) hx hb hts in_X0 hown hK hP 0 rfl rfl 4 (by decide) (hts _ q274) (fun _ h9 => h9) rfl dX0_undo_12 ?_
    refine lv_iconst (v := 1) hx hb dX0_undo_15 (by decide) ?_
    refine lv_isub hx hb dX0_undo_16 ?_
    refine va_put (D := (g.1, g.2.1)) (ci := 0) (v := .int ((S.1 4) - 1)) (ty := .int) (C := RX0) (T := TX0) (N := 20) hx hb hts in_X0 tyX0 tyX0_ok nmX0 hown hK hP hD hS 0 rfl rfl 4 (by decide) (hts _ q274) (fun _ h9 => h9) rfl (by decide +kernel) rfl rfl (Nat.le_of_ble_eq_true rfl) dX0_undo_17 (fun H locs hP hD hS => ?_)
    obtain ⟨S_2, eS_2, hf⟩ := sm_lt_e hf
    have hP : PP g (WX g ad S_2) H := by rw [eS_2]; exact pxf4 hP
    have hD : va_D (AX ad) (WX g ad S_2) := by rw [eS_2]; exact dxf4 hD
    refine lv_aload_n hx hb dX0_undo_20 rfl (lv_at hl 0 rfl) ?_
    refine va_get (D := (g.1, g.2.1)) (ci := 0) (v := .ref (ad 29)) (C := RX0) (T := TX0) (N := 20) hx hb hts in_X0 hown hK hP 0 rfl rfl 1 (by decide) (hts _ q271) (fun _ h9 => h9) rfl dX0_undo_21 ?_
    refine lv_aload_n hx hb dX0_undo_24 rfl (lv_at hl 0 rfl) ?_
    refine va_get (D := (g.1, g.2.1)) (ci := 0) (v := .ref (ad 20)) (C := RX0) (T := TX0) (N := 20) hx hb hts in_X0 hown hK hP 0 rfl rfl 3 (by decide) (hts _ q273) (fun _ h9 => h9) rfl dX0_undo_25 ?_
    refine lv_aload_n hx hb dX0_undo_28 rfl (lv_at hl 0 rfl) ?_
    refine va_get (D := (g.1, g.2.1)) (ci := 0) (v := .int (S_2.1 4)) (C := RX0) (T := TX0) (N := 20) hx hb hts in_X0 hown hK hP 0 rfl rfl 4 (by decide) (hts _ q274) (fun _ h9 => h9) rfl dX0_undo_29 ?_
    obtain ⟨hg, hf⟩ := sm_gd_e hf
    have hi_3 := sm_lt_in (sm_in hg)
    refine va_aldq hx hb hK hP 20 4 rfl rfl (sm_in hg) dX0_undo_32 ?_
    obtain ⟨hg_4, hf⟩ := sm_gd_e hf
    obtain ⟨hg_5, hf⟩ := sm_gd_e hf
    obtain ⟨T_6, h_7, hf⟩ := sm_b1_e hf
    refine va_callv (va_runV (As := [.ref (ad (29 + 4 * (S_2.2.2.2.2.2 ((S_2.1 4).toNatClampNeg))))]) (rest := []) ⟨hx, hb, hml, hown, hts⟩ (wX2_copyOf l g (ai ad 0) (ai ad (S_2.2.2.2.2.2 ((S_2.1 4).toNatClampNeg))) (S_2.2.2.1 (S_2.2.2.2.2.2 ((S_2.1 4).toNatClampNeg))) (S_2.2.2.1 0)  T_6 h_7) (cwV 1 hts (lw_V q623 q624 q625 q62 q626) rfl rfl rfl (by decide +kernel) ⟨Nat.le_of_ble_eq_true rfl, Nat.le_of_ble_eq_true rfl⟩) (sm_pe hE (sm_pII (j := 0) (i := (S_2.2.2.2.2.2 ((S_2.1 4).toNatClampNeg))) (by decide) (of_decide_eq_true hg_4) hP) (sm_dII (j := 0) (i := (S_2.2.2.2.2.2 ((S_2.1 4).toNatClampNeg))) (by decide) (of_decide_eq_true hg_4) (of_decide_eq_true hg_5) (sm_DX.mp hD).1) (va_recv hK (sm_pII (j := 0) (i := (S_2.2.2.2.2.2 ((S_2.1 4).toNatClampNeg))) (by decide) (of_decide_eq_true hg_4) hP) (ci := 2) (q0 := 0) rfl rfl)) rfl rfl hl.1 rfl (lv_room (Nat.le_of_ble_eq_true rfl)) dX0_undo_33 ⟨Nat.le_of_ble_eq_true rfl, Nat.le_of_ble_eq_true rfl⟩) hS (fun q _ h => (sm_aII (j := 0) (i := (S_2.2.2.2.2.2 ((S_2.1 4).toNatClampNeg))) (by decide) (of_decide_eq_true hg_4) q h)) (sm_aII (j := 0) (i := (S_2.2.2.2.2.2 ((S_2.1 4).toNatClampNeg))) (by decide) (of_decide_eq_true hg_4)) (fun u t H locs ht hvm er_8 hB hz hk hS => ?_)
    rw [ht] at hB
    obtain ⟨S_10, eS_10, hf⟩ := sm_lt_e hf
    have hP : PP g (WX g ad S_10) H := by rw [eS_10]; exact sm_xiII (j := 0) (i0 := (S_2.2.2.2.2.2 ((S_2.1 4).toNatClampNeg))) (by decide) (of_decide_eq_true hg_4) (of_decide_eq_true hg_5) (sm_DX.mp hD).1 hP hk hB.1
    have hD : va_D (AX ad) (WX g ad S_10) := by rw [eS_10]; exact sm_dX hD
    refine lv_aload_n hx hb dX0_undo_36 rfl (lv_at hl 0 rfl) ?_
    refine va_get (D := (g.1, g.2.1)) (ci := 0) (v := .int (S_10.1 4)) (C := RX0) (T := TX0) (N := 20) hx hb hts in_X0 hown hK hP 0 rfl rfl 4 (by decide) (hts _ q274) (fun _ h9 => h9) rfl dX0_undo_37 ?_
    have hf := Option.some.inj hf
    rw [← hQ]
    have hf := Prod.mk.inj hf
    exact W.iret (v := S_10.1 4) hx hb hr (fun t ht hW => ⟨⟨_, (), rfl, hf.2, by rw [ht, ← hf.1]; exact hP, by rw [← hf.1]; exact hD⟩, hS.F ht⟩) hS.2.2 dX0_undo_40
  · have hf := (if_pos c_1).symm.trans hf
    refine lv_bipush (v := (-2)) hx hb dX0_undo_7 (by decide) ?_
    have hf := Option.some.inj hf
    rw [← hQ]
    have hf := Prod.mk.inj hf
    exact W.iret (v := (-2)) hx hb hr (fun t ht hW => ⟨⟨_, (), rfl, hf.2, by rw [ht, ← hf.1]; exact hP, by rw [← hf.1]; exact hD⟩, hS.F ht⟩) hS.2.2 dX0_undo_9
abbrev rX0_go : Room := { frames := 2, cells := 0, slots := 0, locals := 46 }
set_option maxHeartbeats 4000000 in
theorem wX0_go (l : Launch) (g : GG) (ad : Nat → Nat) (S : XS) (a1 : Int32) (Sf : XS) (hf : fX0_go S a1 = some Sf) : Met l yX0_go (ws_ yX0_go cX0_go 5 none) rX0_go (va_Pc [.ref (ad 0), .int a1] (fun Ux => PP g (WX g ad S) Ux.heap ∧ EV g Ux ∧ va_D (AX ad) (WX g ad S))) (va_Qv (fun (_ : Unit) => True) (fun _ t => PP g (WX g ad Sf) t.heap ∧ va_D (AX ad) (WX g ad Sf)) (AX ad)) 0 0 (AX ad) := by
  refine sm_st (by decide) ?_
  intro p e s m args below meth c hx hb hr hlocks hml hown hnm hts hv
  obtain ⟨hargs, hP, hE, hD⟩ := hv
  obtain ⟨hK, hN⟩ := id hE
  have hS : va_S (AX ad) s.heap s.heap [] := va_S.rf
  have hown : s.vm.findClass RX0 = some m.cls := hown
  refine sm_en _ (Nat.le_of_ble_eq_true rfl) hargs (fun ls hl => ?_)
  have hl : lv_has ls 5 [(0, .ref (ad 0)), (1, .int a1)] := hl
  generalize hQ : MQ below _ args s _ _ _ = Q
  unfold fX0_go at hf
  refine lv_aload_n hx hb dX0_go_0 rfl (lv_at hl 0 rfl) ?_
  refine va_get (D := (g.1, g.2.1)) (ci := 0) (v := .ref (ad 33)) (C := RX0) (T := TX0) (N := 20) hx hb hts in_X0 hown hK hP 0 rfl rfl 2 (by decide) (hts _ q272) (fun _ h9 => h9) rfl dX0_go_1 ?_
  obtain ⟨T_1, h_2, hf⟩ := sm_b1_e hf
  refine va_callv (va_runV (As := []) (rest := []) ⟨hx, hb, hml, hown, hts⟩ (wX2_begin l g (ai ad 1) (S.2.2.1 1)  T_1 h_2) (cwV 0 hts (lw_V q572 q154 q155 q62 q156) rfl rfl rfl (by decide +kernel) ⟨Nat.le_of_ble_eq_true rfl, Nat.le_of_ble_eq_true rfl⟩) (sm_pe hE (sm_pI (j := 1) (by decide) hP) (sm_dI (j := 1) (by decide) (sm_DX.mp hD).1) (va_recv hK (sm_pI (j := 1) (by decide) hP) (ci := 2) (q0 := 0) rfl rfl)) rfl rfl hl.1 rfl (lv_room (Nat.le_of_ble_eq_true rfl)) dX0_go_4 ⟨Nat.le_of_ble_eq_true rfl, Nat.le_of_ble_eq_true rfl⟩) hS (fun q _ h => (sm_aI (j := 1) (by decide) q h)) (sm_aI (j := 1) (by decide)) (fun u t H locs ht hvm er_3 hB hz hk hS => ?_)
  rw [ht] at hB
  obtain ⟨S_5, eS_5, hf⟩ := sm_lt_e hf
  have hP : PP g (WX g ad S_5) H := by rw [eS_5]; exact sm_xiI (j := 1) (by decide) (sm_DX.mp hD).1 hP hk hB.1
  have hD : va_D (AX ad) (WX g ad S_5) := by rw [eS_5]; exact sm_dX hD
  refine lv_iconst (v := 1) hx hb dX0_go_7 (by decide) ?_
  refine lv_aload_n hx hb dX0_go_8 rfl (lv_at hl 0 rfl) ?_
  refine va_get (D := (g.1, g.2.1)) (ci := 0) (v := .ref (ad 1)) (C := RX0) (T := TX0) (N := 20) hx hb hts in_X0 hown hK hP 0 rfl rfl 0 (by decide) (hts _ q269) (fun _ h9 => h9) rfl dX0_go_9 ?_
  refine va_getN (D := (g.1, g.2.1)) (ci := 1) (v := .int (S_5.2.2.2.2.1.1 6)) (C := RX1) (T := TX1) (N := 9) hx hb hts in_X1 hown hK hP 1 rfl rfl 6 (by decide) (va_Nw.use rfl (hN _ q121 rfl)) (fun _ h9 => h9) rfl dX0_go_12 ?_
  refine lv_ishl hx hb dX0_go_15 ?_
  refine lv_iconst (v := 1) hx hb dX0_go_16 (by decide) ?_
  refine lv_isub hx hb dX0_go_17 ?_
  refine lv_topi (fun x_6 ex_6 => ?_)
  have hf := sm_lt_v hf ex_6
  refine lv_istore_n (lv' := [(2, .int x_6), (0, .ref (ad 0)), (1, .int a1)]) hx hb dX0_go_18 rfl hl (by decide) rfl (fun ls hl => ?_)
  refine lv_iload_n hx hb dX0_go_19 rfl (lv_at hl 0 rfl) ?_
  obtain ⟨x_7, hf, hf0⟩ := sm_b1_e hf
  suffices hj_8 : ∀ (ls : Array Slot), lv_has ls 5 [(2, .int x_6), (0, .ref (ad 0)), (1, .int a1)] → W p l e rX0_go s m args below meth c H locs 0 0 Q (F0 m 28 ls [.int x_7]) from by
    refine lv_if_eq (tgt := 27) hx hb dX0_go_20 (by decide) (fun c_9 => ?_) (fun c_9 => ?_)
    · have hf := (if_pos c_9).symm.trans hf
      refine lv_iconst (v := 0) hx hb dX0_go_27 (by decide) ?_
      cases hf
      exact hj_8 _ (lv_sub hl [0, 1, 2] rfl)
    · have hf := (if_neg c_9).symm.trans hf
      refine lv_iconst (v := 1) hx hb dX0_go_23 (by decide) ?_
      refine lv_goto (tgt := 28) hx hb dX0_go_24 (by decide) ?_
      cases hf
      exact hj_8 _ (lv_sub hl [0, 1, 2] rfl)
  intro ls hl
  have hf := hf0
  refine lv_istore_n (lv' := [(3, .int x_7), (2, .int x_6), (0, .ref (ad 0)), (1, .int a1)]) hx hb dX0_go_28 rfl hl (by decide) rfl (fun ls hl => ?_)
  have L_17 : ∀ (n : Nat) (x_10 : Int32) (S_11 : XS) (o_18 : Int32) (o_19 : XS) (H : Heap) (locs : List Loc) (ls : Array Slot), sm_lp (fun q => fX0_go_29 a1 x_6 q.1 q.2) n (x_10, S_11) = some (o_18, o_19) → PP g (WX g ad S_11) H → va_D (AX ad) (WX g ad S_11) → va_S (AX ad) s.heap H locs → lv_has ls 5 [(2, .int x_6), (0, .ref (ad 0)), (1, .int a1), (3, .int x_10)] → (∀ (H : Heap) (locs : List Loc) (ls : Array Slot), PP g (WX g ad o_19) H → va_D (AX ad) (WX g ad o_19) → va_S (AX ad) s.heap H locs → lv_has ls 5 [(2, .int x_6), (0, .ref (ad 0)), (1, .int a1), (3, .int o_18)] → W p l e rX0_go s m args below meth c H locs 0 0 Q (F0 m 202 ls [])) → W p l e rX0_go s m args below meth c H locs 0 0 Q (F0 m 29 ls []) := by
    intro n
    induction n with
    | zero =>
      intro _ _ _ _ _ _ _ hf
      cases hf
    | succ n ih_12 =>
      intro x_10 S_11 o_18 o_19 H locs ls hf hP hD hS hl kx_13
      obtain ⟨q, hf, hc_16⟩ := sm_bnd hf
      have hf : fX0_go_29 a1 x_6 x_10 S_11 = some q := hf
      unfold fX0_go_29 at hf
      refine lv_iload_n hx hb dX0_go_29 rfl (lv_at hl 3 rfl) ?_
      refine lv_if_eq (tgt := 202) hx hb dX0_go_30 (by decide) (fun c_20 => ?_) (fun c_20 => ?_)
      · have hf := (if_pos c_20).symm.trans hf
        cases hf
        have hc_16 : some (x_10, S_11) = some (o_18, o_19) := hc_16
        cases hc_16
        exact kx_13 _ _ _ hP hD hS (lv_sub hl [0, 1, 2, 3] rfl)
      · have hf := (if_neg c_20).symm.trans hf
        refine lv_iconst (v := 0) hx hb dX0_go_33 (by decide) ?_
        refine lv_istore (lv' := [(4, .int 0), (2, .int x_6), (0, .ref (ad 0)), (1, .int a1), (3, .int x_10)]) hx hb dX0_go_34 hl (by decide) rfl (fun ls hl => ?_)
        have L_28 : ∀ (n : Nat) (x_21 : Int32) (S_22 : XS) (o_29 : Int32) (o_30 : XS) (H : Heap) (locs : List Loc) (ls : Array Slot), sm_lp (fun q => fX0_go_36 q.1 q.2) n (x_21, S_22) = some (o_29, o_30) → PP g (WX g ad S_22) H → va_D (AX ad) (WX g ad S_22) → va_S (AX ad) s.heap H locs → lv_has ls 5 [(2, .int x_6), (0, .ref (ad 0)), (1, .int a1), (3, .int x_10), (4, .int x_21)] → (∀ (H : Heap) (locs : List Loc) (ls : Array Slot), PP g (WX g ad o_30) H → va_D (AX ad) (WX g ad o_30) → va_S (AX ad) s.heap H locs → lv_has ls 5 [(2, .int x_6), (0, .ref (ad 0)), (1, .int a1), (3, .int x_10), (4, .int o_29)] → W p l e rX0_go s m args below meth c H locs 0 0 Q (F0 m 110 ls [])) → W p l e rX0_go s m args below meth c H locs 0 0 Q (F0 m 36 ls []) := by
          intro n
          induction n with
          | zero =>
            intro _ _ _ _ _ _ _ hf
            cases hf
          | succ n ih_23 =>
            intro x_21 S_22 o_29 o_30 H locs ls hf hP hD hS hl kx_24
            obtain ⟨q, hf, hc_27⟩ := sm_bnd hf
            have hf : fX0_go_36 x_21 S_22 = some q := hf
            unfold fX0_go_36 at hf
            refine lv_iload hx hb dX0_go_36 (lv_at hl 4 rfl) ?_
            refine lv_aload_n hx hb dX0_go_38 rfl (lv_at hl 1 rfl) ?_
            refine va_get (D := (g.1, g.2.1)) (ci := 0) (v := .ref (ad 1)) (C := RX0) (T := TX0) (N := 20) hx hb hts in_X0 hown hK hP 0 rfl rfl 0 (by decide) (hts _ q269) (fun _ h9 => h9) rfl dX0_go_39 ?_
            refine va_getN (D := (g.1, g.2.1)) (ci := 1) (v := .int (S_22.2.2.2.2.1.1 6)) (C := RX1) (T := TX1) (N := 9) hx hb hts in_X1 hown hK hP 1 rfl rfl 6 (by decide) (va_Nw.use rfl (hN _ q121 rfl)) (fun _ h9 => h9) rfl dX0_go_42 ?_
            refine lv_icmp_ge (tgt := 110) hx hb dX0_go_45 (by decide) (fun c_31 => ?_) (fun c_31 => ?_)
            · have hf := (if_pos c_31).symm.trans hf
              cases hf
              have hc_27 : some (x_21, S_22) = some (o_29, o_30) := hc_27
              cases hc_27
              exact kx_24 _ _ _ hP hD hS (lv_sub hl [0, 1, 2, 3, 4] rfl)
            · have hf := (if_neg c_31).symm.trans hf
              refine lv_aload_n hx hb dX0_go_48 rfl (lv_at hl 1 rfl) ?_
              refine va_get (D := (g.1, g.2.1)) (ci := 0) (v := .ref (ad 33)) (C := RX0) (T := TX0) (N := 20) hx hb hts in_X0 hown hK hP 0 rfl rfl 2 (by decide) (hts _ q272) (fun _ h9 => h9) rfl dX0_go_49 ?_
              refine lv_aload_n hx hb dX0_go_52 rfl (lv_at hl 1 rfl) ?_
              refine va_get (D := (g.1, g.2.1)) (ci := 0) (v := .ref (ad 1)) (C := RX0) (T := TX0) (N := 20) hx hb hts in_X0 hown hK hP 0 rfl rfl 0 (by decide) (hts _ q269) (fun _ h9 => h9) rfl dX0_go_53 ?_
              refine lv_iload hx hb dX0_go_56 (lv_at hl 4 rfl) ?_
              obtain ⟨r_32, h_33, hf⟩ := sm_b1_e hf
              refine vp_callSi (W.runV (As := [.ref (ad 1), .int x_21]) (rest := []) ⟨hx, hb, hml, hown, hts⟩ (wX2_mayLeave l g (ai ad 1) (bd ad) S_22.2.2.2.2.1 (S_22.2.2.1 1) x_21 r_32 h_33) (cwV 2 hts (lw_V q648 q601 q602 q62 q603) rfl rfl rfl (by decide +kernel) ⟨Nat.le_of_ble_eq_true rfl, Nat.le_of_ble_eq_true rfl⟩) (sm_pv hE (sm_pIB (j := 1) (by decide) hP) (va_recv hK (sm_pIB (j := 1) (by decide) hP) (ci := 2) (q0 := 0) rfl rfl)) rfl rfl hl.1 rfl (lv_room (Nat.le_of_ble_eq_true rfl)) dX0_go_58 ⟨Nat.le_of_ble_eq_true rfl, Nat.le_of_ble_eq_true rfl⟩) (fun r_35 er_34 => ?_)
              have er_34 := er_34.symm
              subst er_34
              refine lv_if_eq (tgt := 104) hx hb dX0_go_61 (by decide) (fun c_36 => ?_) (fun c_36 => ?_)
              · have hf := (if_pos c_36).symm.trans hf
                refine lv_iinc (v := x_21 + 1) (lv' := [(4, .int (x_21 + 1)), (2, .int x_6), (0, .ref (ad 0)), (1, .int a1), (3, .int x_10)]) hx hb dX0_go_104 hl (k := 4) rfl rfl (by decide) rfl (fun ls hl => ?_)
                refine lv_goto (tgt := 36) hx hb dX0_go_107 (by decide) ?_
                cases hf
                exact ih_23 _ _ _ _ _ _ _ hc_27 hP hD hS (lv_sub hl [1, 2, 3, 4, 0] rfl) kx_24
              · have hf := (if_neg c_36).symm.trans hf
                refine lv_aload_n hx hb dX0_go_64 rfl (lv_at hl 1 rfl) ?_
                refine va_get (D := (g.1, g.2.1)) (ci := 0) (v := .ref (ad 1)) (C := RX0) (T := TX0) (N := 20) hx hb hts in_X0 hown hK hP 0 rfl rfl 0 (by decide) (hts _ q269) (fun _ h9 => h9) rfl dX0_go_65 ?_
                refine lv_aload_n hx hb dX0_go_68 rfl (lv_at hl 1 rfl) ?_
                refine va_get (D := (g.1, g.2.1)) (ci := 0) (v := .ref (ad 33)) (C := RX0) (T := TX0) (N := 20) hx hb hts in_X0 hown hK hP 0 rfl rfl 2 (by decide) (hts _ q272) (fun _ h9 => h9) rfl dX0_go_69 ?_
                refine va_getN (D := (g.1, g.2.1)) (ci := 2) (v := .int ((S_22.2.2.1 1).1 0)) (C := RX2) (T := TX2) (N := 7) hx hb hts in_X2 hown hK hP 33 rfl rfl 0 (by decide) (va_Nw.use rfl (hN _ q161 rfl)) (fun _ h9 => h9) rfl dX0_go_72 ?_
                obtain ⟨r_37, h_38, hf⟩ := sm_b1_e hf
                refine vp_callSi (W.runV (As := [.int ((S_22.2.2.1 1).1 0)]) (rest := []) ⟨hx, hb, hml, hown, hts⟩ (wX1_isBoat l g (bd ad) S_22.2.2.2.2.1 ((S_22.2.2.1 1).1 0) r_37 h_38) (cwV 1 hts (lw_V q604 q605 q606 q61 q607) rfl rfl rfl (by decide +kernel) ⟨Nat.le_of_ble_eq_true rfl, Nat.le_of_ble_eq_true rfl⟩) (sm_pv hE (sm_pB hP) (va_recv hK (sm_pB hP) (ci := 1) (q0 := 0) rfl rfl)) rfl rfl hl.1 rfl (lv_room (Nat.le_of_ble_eq_true rfl)) dX0_go_75 ⟨Nat.le_of_ble_eq_true rfl, Nat.le_of_ble_eq_true rfl⟩) (fun r_40 er_39 => ?_)
                have er_39 := er_39.symm
                subst er_39
                refine lv_if_eq (tgt := 104) hx hb dX0_go_78 (by decide) (fun c_41 => ?_) (fun c_41 => ?_)
                · have hf := (if_pos c_41).symm.trans hf
                  refine lv_iinc (v := x_21 + 1) (lv' := [(4, .int (x_21 + 1)), (2, .int x_6), (0, .ref (ad 0)), (1, .int a1), (3, .int x_10)]) hx hb dX0_go_104 hl (k := 4) rfl rfl (by decide) rfl (fun ls hl => ?_)
                  refine lv_goto (tgt := 36) hx hb dX0_go_107 (by decide) ?_
                  cases hf
                  exact ih_23 _ _ _ _ _ _ _ hc_27 hP hD hS (lv_sub hl [1, 2, 3, 4, 0] rfl) kx_24
                · have hf := (if_neg c_41).symm.trans hf
                  refine lv_aload_n hx hb dX0_go_81 rfl (lv_at hl 1 rfl) ?_
                  refine va_get (D := (g.1, g.2.1)) (ci := 0) (v := .ref (ad 33)) (C := RX0) (T := TX0) (N := 20) hx hb hts in_X0 hown hK hP 0 rfl rfl 2 (by decide) (hts _ q272) (fun _ h9 => h9) rfl dX0_go_82 ?_
                  refine lv_iload hx hb dX0_go_85 (lv_at hl 4 rfl) ?_
                  obtain ⟨T_42, h_43, hf⟩ := sm_b1_e hf
                  refine va_callv (va_runV (As := [.int x_21]) (rest := []) ⟨hx, hb, hml, hown, hts⟩ (wX2_sail l g (ai ad 1) (S_22.2.2.1 1) x_21 T_42 h_43) (cwV 1 hts (lw_V q649 q650 q651 q62 q652) rfl rfl rfl (by decide +kernel) ⟨Nat.le_of_ble_eq_true rfl, Nat.le_of_ble_eq_true rfl⟩) (sm_pe hE (sm_pI (j := 1) (by decide) hP) (sm_dI (j := 1) (by decide) (sm_DX.mp hD).1) (va_recv hK (sm_pI (j := 1) (by decide) hP) (ci := 2) (q0 := 0) rfl rfl)) rfl rfl hl.1 rfl (lv_room (Nat.le_of_ble_eq_true rfl)) dX0_go_87 ⟨Nat.le_of_ble_eq_true rfl, Nat.le_of_ble_eq_true rfl⟩) hS (fun q _ h => (sm_aI (j := 1) (by decide) q h)) (sm_aI (j := 1) (by decide)) (fun u t H locs ht hvm er_44 hB hz hk hS => ?_)
                  rw [ht] at hB
                  obtain ⟨S_46, eS_46, hf⟩ := sm_lt_e hf
                  have hP : PP g (WX g ad S_46) H := by rw [eS_46]; exact sm_xiI (j := 1) (by decide) (sm_DX.mp hD).1 hP hk hB.1
                  have hD : va_D (AX ad) (WX g ad S_46) := by rw [eS_46]; exact sm_dX hD
                  refine lv_aload_n hx hb dX0_go_90 rfl (lv_at hl 1 rfl) ?_
                  refine va_get (D := (g.1, g.2.1)) (ci := 0) (v := .ref (ad 10)) (C := RX0) (T := TX0) (N := 20) hx hb hts in_X0 hown hK hP 0 rfl rfl 9 (by decide) (hts _ q281) (fun _ h9 => h9) rfl dX0_go_91 ?_
                  refine lv_iload hx hb dX0_go_94 (lv_at hl 4 rfl) ?_
                  refine lv_aload_n hx hb dX0_go_96 rfl (lv_at hl 1 rfl) ?_
                  refine va_get (D := (g.1, g.2.1)) (ci := 0) (v := .ref (ad 33)) (C := RX0) (T := TX0) (N := 20) hx hb hts in_X0 hown hK hP 0 rfl rfl 2 (by decide) (hts _ q272) (fun _ h9 => h9) rfl dX0_go_97 ?_
                  refine va_getN (D := (g.1, g.2.1)) (ci := 2) (v := .int ((S_46.2.2.1 1).1 0)) (C := RX2) (T := TX2) (N := 7) hx hb hts in_X2 hown hK hP 33 rfl rfl 0 (by decide) (va_Nw.use rfl (hN _ q161 rfl)) (fun _ h9 => h9) rfl dX0_go_100 ?_
                  obtain ⟨hg, hf⟩ := sm_gd_e hf
                  refine va_iast (i := x_21) (x := (S_46.2.2.1 1).1 0) hx hb hK hP hD hS 10 0 rfl rfl (sm_in hg) dX0_go_103 (fun H locs hP hD hS => ?_)
                  obtain ⟨S_47, eS_47, hf⟩ := sm_lt_e hf
                  have hP : PP g (WX g ad S_47) H := by rw [eS_47]; exact pxr9 hP
                  have hD : va_D (AX ad) (WX g ad S_47) := by rw [eS_47]; exact dxr9 hD
                  refine lv_iinc (v := x_21 + 1) (lv' := [(4, .int (x_21 + 1)), (2, .int x_6), (0, .ref (ad 0)), (1, .int a1), (3, .int x_10)]) hx hb dX0_go_104 hl (k := 4) rfl rfl (by decide) rfl (fun ls hl => ?_)
                  refine lv_goto (tgt := 36) hx hb dX0_go_107 (by decide) ?_
                  cases hf
                  exact ih_23 _ _ _ _ _ _ _ hc_27 hP hD hS (lv_sub hl [1, 2, 3, 4, 0] rfl) kx_24
        obtain ⟨x_49, S_50, ho, hf⟩ := sm_b2_e hf
        refine L_28 FU 0 S_11 x_49 S_50 H locs ls ho hP hD hS (lv_sub hl [1, 2, 3, 4, 0] rfl) ?_
        intro H locs ls hP hD hS hl
        refine lv_iconst (v := 0) hx hb dX0_go_110 (by decide) ?_
        refine lv_istore (lv' := [(4, .int 0), (2, .int x_6), (0, .ref (ad 0)), (1, .int a1), (3, .int x_10)]) hx hb dX0_go_111 hl (by decide) rfl (fun ls hl => ?_)
        have L_58 : ∀ (n : Nat) (x_51 : Int32) (S_52 : XS) (o_59 : Int32) (o_60 : XS) (H : Heap) (locs : List Loc) (ls : Array Slot), sm_lp (fun q => fX0_go_113 a1 q.1 q.2) n (x_51, S_52) = some (o_59, o_60) → PP g (WX g ad S_52) H → va_D (AX ad) (WX g ad S_52) → va_S (AX ad) s.heap H locs → lv_has ls 5 [(2, .int x_6), (0, .ref (ad 0)), (1, .int a1), (3, .int x_10), (4, .int x_51)] → (∀ (H : Heap) (locs : List Loc) (ls : Array Slot), PP g (WX g ad o_60) H → va_D (AX ad) (WX g ad o_60) → va_S (AX ad) s.heap H locs → lv_has ls 5 [(2, .int x_6), (0, .ref (ad 0)), (1, .int a1), (3, .int x_10), (4, .int o_59)] → W p l e rX0_go s m args below meth c H locs 0 0 Q (F0 m 167 ls [])) → W p l e rX0_go s m args below meth c H locs 0 0 Q (F0 m 113 ls []) := by
          intro n
          induction n with
          | zero =>
            intro _ _ _ _ _ _ _ hf
            cases hf
          | succ n ih_53 =>
            intro x_51 S_52 o_59 o_60 H locs ls hf hP hD hS hl kx_54
            obtain ⟨q, hf, hc_57⟩ := sm_bnd hf
            have hf : fX0_go_113 a1 x_51 S_52 = some q := hf
            unfold fX0_go_113 at hf
            refine lv_iload hx hb dX0_go_113 (lv_at hl 4 rfl) ?_
            refine lv_aload_n hx hb dX0_go_115 rfl (lv_at hl 1 rfl) ?_
            refine va_get (D := (g.1, g.2.1)) (ci := 0) (v := .ref (ad 1)) (C := RX0) (T := TX0) (N := 20) hx hb hts in_X0 hown hK hP 0 rfl rfl 0 (by decide) (hts _ q269) (fun _ h9 => h9) rfl dX0_go_116 ?_
            refine va_getN (D := (g.1, g.2.1)) (ci := 1) (v := .int (S_52.2.2.2.2.1.1 6)) (C := RX1) (T := TX1) (N := 9) hx hb hts in_X1 hown hK hP 1 rfl rfl 6 (by decide) (va_Nw.use rfl (hN _ q121 rfl)) (fun _ h9 => h9) rfl dX0_go_119 ?_
            refine lv_icmp_ge (tgt := 167) hx hb dX0_go_122 (by decide) (fun c_61 => ?_) (fun c_61 => ?_)
            · have hf := (if_pos c_61).symm.trans hf
              cases hf
              have hc_57 : some (x_51, S_52) = some (o_59, o_60) := hc_57
              cases hc_57
              exact kx_54 _ _ _ hP hD hS (lv_sub hl [0, 1, 2, 3, 4] rfl)
            · have hf := (if_neg c_61).symm.trans hf
              refine lv_aload_n hx hb dX0_go_125 rfl (lv_at hl 1 rfl) ?_
              refine va_get (D := (g.1, g.2.1)) (ci := 0) (v := .ref (ad 1)) (C := RX0) (T := TX0) (N := 20) hx hb hts in_X0 hown hK hP 0 rfl rfl 0 (by decide) (hts _ q269) (fun _ h9 => h9) rfl dX0_go_126 ?_
              refine va_getN (D := (g.1, g.2.1)) (ci := 1) (v := .ref (ad 3)) (C := RX1) (T := TX1) (N := 9) hx hb hts in_X1 hown hK hP 1 rfl rfl 1 (by decide) (va_Nw.use rfl (hN _ q104 rfl)) (fun _ h9 => h9) rfl dX0_go_129 ?_
              refine lv_iload hx hb dX0_go_132 (lv_at hl 4 rfl) ?_
              obtain ⟨hg, hf⟩ := sm_gd_e hf
              refine va_iald hx hb hK hP 3 0 rfl rfl (sm_in hg) dX0_go_134 ?_
              refine lv_aload_n hx hb dX0_go_135 rfl (lv_at hl 1 rfl) ?_
              refine va_get (D := (g.1, g.2.1)) (ci := 0) (v := .ref (ad 33)) (C := RX0) (T := TX0) (N := 20) hx hb hts in_X0 hown hK hP 0 rfl rfl 2 (by decide) (hts _ q272) (fun _ h9 => h9) rfl dX0_go_136 ?_
              refine va_getN (D := (g.1, g.2.1)) (ci := 2) (v := .int ((S_52.2.2.1 1).1 0)) (C := RX2) (T := TX2) (N := 7) hx hb hts in_X2 hown hK hP 33 rfl rfl 0 (by decide) (va_Nw.use rfl (hN _ q161 rfl)) (fun _ h9 => h9) rfl dX0_go_139 ?_
              refine lv_icmp_ne (tgt := 161) hx hb dX0_go_142 (by decide) (fun c_62 => ?_) (fun c_62 => ?_)
              · have hf := (if_neg c_62).symm.trans hf
                refine lv_iinc (v := x_51 + 1) (lv' := [(4, .int (x_51 + 1)), (2, .int x_6), (0, .ref (ad 0)), (1, .int a1), (3, .int x_10)]) hx hb dX0_go_161 hl (k := 4) rfl rfl (by decide) rfl (fun ls hl => ?_)
                refine lv_goto (tgt := 113) hx hb dX0_go_164 (by decide) ?_
                cases hf
                exact ih_53 _ _ _ _ _ _ _ hc_57 hP hD hS (lv_sub hl [1, 2, 3, 4, 0] rfl) kx_54
              · have hf := (if_pos c_62).symm.trans hf
                refine lv_aload_n hx hb dX0_go_145 rfl (lv_at hl 1 rfl) ?_
                refine va_get (D := (g.1, g.2.1)) (ci := 0) (v := .ref (ad 33)) (C := RX0) (T := TX0) (N := 20) hx hb hts in_X0 hown hK hP 0 rfl rfl 2 (by decide) (hts _ q272) (fun _ h9 => h9) rfl dX0_go_146 ?_
                refine lv_iload hx hb dX0_go_149 (lv_at hl 4 rfl) ?_
                refine lv_iload_n hx hb dX0_go_151 rfl (lv_at hl 2 rfl) ?_
                refine lv_iload hx hb dX0_go_152 (lv_at hl 4 rfl) ?_
                obtain ⟨r_63, h_64, hf⟩ := sm_b1_e hf
                refine vp_callSi (W.runS (As := [.int a1, .int x_51]) (rest := [.int x_51, .ref (ad 33)]) ⟨hx, hb, hml, hown, hts⟩ (wX0_rowIn l a1 x_51 r_63 h_64) (va_cwS 2 hts (lw_S q675 q676 q60 q677) rfl rfl rfl (by decide +kernel) ⟨Nat.le_of_ble_eq_true rfl, Nat.le_of_ble_eq_true rfl⟩) (sm_ps) rfl rfl hl.1 rfl (lv_room (Nat.le_of_ble_eq_true rfl)) dX0_go_154 ⟨Nat.le_of_ble_eq_true rfl, Nat.le_of_ble_eq_true rfl⟩) (fun r_66 er_65 => ?_)
                have er_65 := er_65.symm
                subst er_65
                obtain ⟨T_67, r_69, h_68, hf⟩ := sm_b2_e hf
                refine va_calli (va_runV (As := [.int x_51, .int r_63]) (rest := []) ⟨hx, hb, hml, hown, hts⟩ (wX2_put l g (ai ad 1) (S_52.2.2.1 1) x_51 r_63 T_67 r_69 h_68) (cwV 2 hts (lw_V q628 q629 q630 q62 q631) rfl rfl rfl (by decide +kernel) ⟨Nat.le_of_ble_eq_true rfl, Nat.le_of_ble_eq_true rfl⟩) (sm_pe hE (sm_pI (j := 1) (by decide) hP) (sm_dI (j := 1) (by decide) (sm_DX.mp hD).1) (va_recv hK (sm_pI (j := 1) (by decide) hP) (ci := 2) (q0 := 0) rfl rfl)) rfl rfl hl.1 rfl (lv_room (Nat.le_of_ble_eq_true rfl)) dX0_go_157 ⟨Nat.le_of_ble_eq_true rfl, Nat.le_of_ble_eq_true rfl⟩) hS (fun q _ h => (sm_aI (j := 1) (by decide) q h)) (sm_aI (j := 1) (by decide)) (fun r_71 u t H locs ht hvm er_70 hB hz hk hS => ?_)
                have er_70 := er_70.symm
                subst er_70
                rw [ht] at hB
                obtain ⟨S_72, eS_72, hf⟩ := sm_lt_e hf
                have hP : PP g (WX g ad S_72) H := by rw [eS_72]; exact sm_xiI (j := 1) (by decide) (sm_DX.mp hD).1 hP hk hB.1
                have hD : va_D (AX ad) (WX g ad S_72) := by rw [eS_72]; exact sm_dX hD
                refine lv_pop hx hb dX0_go_160 rfl ?_
                refine lv_iinc (v := x_51 + 1) (lv' := [(4, .int (x_51 + 1)), (2, .int x_6), (0, .ref (ad 0)), (1, .int a1), (3, .int x_10)]) hx hb dX0_go_161 hl (k := 4) rfl rfl (by decide) rfl (fun ls hl => ?_)
                refine lv_goto (tgt := 113) hx hb dX0_go_164 (by decide) ?_
                cases hf
                exact ih_53 _ _ _ _ _ _ _ hc_57 hP hD hS (lv_sub hl [1, 2, 3, 4, 0] rfl) kx_54
        obtain ⟨x_74, S_75, ho, hf⟩ := sm_b2_e hf
        refine L_58 FU 0 S_50 x_74 S_75 H locs ls ho hP hD hS (lv_sub hl [1, 2, 3, 4, 0] rfl) ?_
        intro H locs ls hP hD hS hl
        refine lv_aload_n hx hb dX0_go_167 rfl (lv_at hl 1 rfl) ?_
        refine va_get (D := (g.1, g.2.1)) (ci := 0) (v := .ref (ad 33)) (C := RX0) (T := TX0) (N := 20) hx hb hts in_X0 hown hK hP 0 rfl rfl 2 (by decide) (hts _ q272) (fun _ h9 => h9) rfl dX0_go_168 ?_
        refine va_getN (D := (g.1, g.2.1)) (ci := 2) (v := .int ((S_75.2.2.1 1).1 2)) (C := RX2) (T := TX2) (N := 7) hx hb hts in_X2 hown hK hP 33 rfl rfl 2 (by decide) (va_Nw.use rfl (hN _ q166 rfl)) (fun _ h9 => h9) rfl dX0_go_171 ?_
        refine lv_iload_n hx hb dX0_go_174 rfl (lv_at hl 0 rfl) ?_
        obtain ⟨x_76, hf, hf0⟩ := sm_b1_e hf
        suffices hj_77 : ∀ (ls : Array Slot), lv_has ls 5 [(2, .int x_6), (0, .ref (ad 0)), (1, .int a1), (3, .int x_10), (4, .int x_74)] → W p l e rX0_go s m args below meth c H locs 0 0 Q (F0 m 183 ls [.int x_76]) from by
          refine lv_icmp_eq (tgt := 182) hx hb dX0_go_175 (by decide) (fun c_78 => ?_) (fun c_78 => ?_)
          · have hf := (if_pos c_78).symm.trans hf
            refine lv_iconst (v := 0) hx hb dX0_go_182 (by decide) ?_
            cases hf
            exact hj_77 _ (lv_sub hl [0, 1, 2, 3, 4] rfl)
          · have hf := (if_neg c_78).symm.trans hf
            refine lv_iconst (v := 1) hx hb dX0_go_178 (by decide) ?_
            refine lv_goto (tgt := 183) hx hb dX0_go_179 (by decide) ?_
            cases hf
            exact hj_77 _ (lv_sub hl [0, 1, 2, 3, 4] rfl)
        intro ls hl
        have hf := hf0
        refine lv_istore_n (lv' := [(3, .int x_76), (2, .int x_6), (0, .ref (ad 0)), (1, .int a1), (4, .int x_74)]) hx hb dX0_go_183 rfl hl (by decide) rfl (fun ls hl => ?_)
        refine lv_iload_n hx hb dX0_go_184 rfl (lv_at hl 0 rfl) ?_
        refine lv_if_eq (tgt := 29) hx hb dX0_go_185 (by decide) (fun c_79 => ?_) (fun c_79 => ?_)
        · have hf := (if_pos c_79).symm.trans hf
          cases hf
          exact ih_12 _ _ _ _ _ _ _ hc_16 hP hD hS (lv_sub hl [1, 2, 3, 0] rfl) kx_13
        · have hf := (if_neg c_79).symm.trans hf
          refine lv_aload_n hx hb dX0_go_188 rfl (lv_at hl 2 rfl) ?_
          refine va_get (D := (g.1, g.2.1)) (ci := 0) (v := .ref (ad 33)) (C := RX0) (T := TX0) (N := 20) hx hb hts in_X0 hown hK hP 0 rfl rfl 2 (by decide) (hts _ q272) (fun _ h9 => h9) rfl dX0_go_189 ?_
          refine lv_aload_n hx hb dX0_go_192 rfl (lv_at hl 2 rfl) ?_
          refine va_get (D := (g.1, g.2.1)) (ci := 0) (v := .ref (ad 1)) (C := RX0) (T := TX0) (N := 20) hx hb hts in_X0 hown hK hP 0 rfl rfl 0 (by decide) (hts _ q269) (fun _ h9 => h9) rfl dX0_go_193 ?_
          obtain ⟨T_80, h_81, hf⟩ := sm_b1_e hf
          refine va_callv (va_runV (As := [.ref (ad 1)]) (rest := []) ⟨hx, hb, hml, hown, hts⟩ (wX2_pass l g (ai ad 1) (bd ad) S_75.2.2.2.2.1 (S_75.2.2.1 1)  T_80 h_81) (cwV 1 hts (lw_V q640 q641 q642 q62 q643) rfl rfl rfl (by decide +kernel) ⟨Nat.le_of_ble_eq_true rfl, Nat.le_of_ble_eq_true rfl⟩) (sm_pe hE (sm_pIB (j := 1) (by decide) hP) (sm_dIB (j := 1) (by decide) (sm_DX.mp hD).1) (va_recv hK (sm_pIB (j := 1) (by decide) hP) (ci := 2) (q0 := 0) rfl rfl)) rfl rfl hl.1 rfl (lv_room (Nat.le_of_ble_eq_true rfl)) dX0_go_196 ⟨Nat.le_of_ble_eq_true rfl, Nat.le_of_ble_eq_true rfl⟩) hS (fun q _ h => (sm_aIB (j := 1) (by decide) q h)) (sm_aIB (j := 1) (by decide)) (fun u t H locs ht hvm er_82 hB hz hk hS => ?_)
          rw [ht] at hB
          obtain ⟨S_84, eS_84, hf⟩ := sm_lt_e hf
          have hP : PP g (WX g ad S_84) H := by rw [eS_84]; exact sm_xiB (j := 1) (by decide) (sm_DX.mp hD).1 hP hk hB.1
          have hD : va_D (AX ad) (WX g ad S_84) := by rw [eS_84]; exact sm_dX hD
          refine lv_goto (tgt := 29) hx hb dX0_go_199 (by decide) ?_
          cases hf
          exact ih_12 _ _ _ _ _ _ _ hc_16 hP hD hS (lv_sub hl [1, 2, 3, 0] rfl) kx_13
  obtain ⟨x_86, S_87, ho, hf⟩ := sm_b2_e hf
  refine L_17 FU x_7 S_5 x_86 S_87 H locs ls ho hP hD hS (lv_sub hl [1, 2, 3, 0] rfl) ?_
  intro H locs ls hP hD hS hl
  have hf := Option.some.inj hf
  rw [← hQ]
  exact W.vret hx hb hr (fun t ht hW => ⟨⟨(), rfl, trivial, by rw [ht, ← hf]; exact hP, by rw [← hf]; exact hD⟩, hS.F ht⟩) hS.2.2 dX0_go_202
