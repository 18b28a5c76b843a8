/-! SmokedLetters, walked: printed by gen/xmain.py -/
set_option maxRecDepth 100000
abbrev rX0_stood : Room := { frames := 2, cells := 0, slots := 0, locals := 47 }
set_option maxHeartbeats 4000000 in
theorem wX0_stood (l : Launch) (g : GG) (ad : Nat → Nat) (S : XS) (a1 : Int32) (rf : Int32) (hf : fX0_stood S a1 = some rf) : Met l yX0_stood (ws_ yX0_stood cX0_stood 2 (some .int)) rX0_stood (va_Pc [.ref (ad 0), .int a1] (fun Ux => PP g (WX g ad S) Ux.heap ∧ EV g Ux)) (vp_Si (fun y => y = rf)) 0 0 (fun _ => False) := by
  refine sm_st (by decide) ?_
  intro p e s m args below meth c hx hb hr hlocks hml hown hnm hts hv
  obtain ⟨hargs, hP, hE⟩ := hv
  obtain ⟨hK, hN⟩ := id hE
  have hown : s.vm.findClass RX0 = some m.cls := hown
  refine sm_en _ (Nat.le_of_ble_eq_true rfl) hargs (fun ls hl => ?_)
  have hl : lv_has ls 2 [(0, .ref (ad 0)), (1, .int a1)] := hl
  generalize hQ : MQ below _ args s _ _ _ = Q
  unfold fX0_stood at hf
  refine lv_aload_n hx hb dX0_stood_0 rfl (lv_at hl 0 rfl) ?_
  refine lv_iload_n hx hb dX0_stood_1 rfl (lv_at hl 1 rfl) ?_
  refine vp_callSi (W.runV (As := [.int a1]) (rest := []) ⟨hx, hb, hml, hown, hts⟩ (wX0_isPlace l g ad S a1 (fX0_isPlace S a1) rfl) (cwV 1 hts (lw_V q761 q763 qs17 q60 q764) rfl rfl rfl (by decide +kernel) ⟨Nat.le_of_ble_eq_true rfl, Nat.le_of_ble_eq_true rfl⟩) (sm_pv hE hP (va_recv hK hP (ci := 0) (q0 := 0) rfl rfl)) rfl rfl hl.1 rfl (lv_room (Nat.le_of_ble_eq_true rfl)) dX0_stood_2 ⟨Nat.le_of_ble_eq_true rfl, Nat.le_of_ble_eq_true rfl⟩) (fun r_2 er_1 => ?_)
  have er_1 := er_1.symm
  subst er_1
  refine lv_if_eq (tgt := 16) hx hb dX0_stood_5 (by decide) (fun c_3 => ?_) (fun c_3 => ?_)
  · have hf := (if_pos c_3).symm.trans hf
    refine lv_iconst (v := (-1)) hx hb dX0_stood_16 (by decide) ?_
    have hf := Option.some.inj hf
    rw [← hQ]
    exact W.iret (v := (-1)) hx hb hr (fun t ht hW => ⟨_, rfl, hf, ht⟩) (fun _ h => by cases h) dX0_stood_17
  · have hf := (if_neg c_3).symm.trans hf
    refine lv_aload_n hx hb dX0_stood_8 rfl (lv_at hl 0 rfl) ?_
    refine lv_iload_n hx hb dX0_stood_9 rfl (lv_at hl 1 rfl) ?_
    obtain ⟨r_4, h_5, hf⟩ := sm_b1_e hf
    refine vp_callSi (W.runV (As := [.int a1]) (rest := []) ⟨hx, hb, hml, hown, hts⟩ (wX0_stoodAt l g ad S a1 r_4 h_5) (cwV 1 hts (lw_V q765 q767 qs18 q60 q768) rfl rfl rfl (by decide +kernel) ⟨Nat.le_of_ble_eq_true rfl, Nat.le_of_ble_eq_true rfl⟩) (sm_pv hE hP (va_recv hK hP (ci := 0) (q0 := 0) rfl rfl)) rfl rfl hl.1 rfl (lv_room (Nat.le_of_ble_eq_true rfl)) dX0_stood_10 ⟨Nat.le_of_ble_eq_true rfl, Nat.le_of_ble_eq_true rfl⟩) (fun r_7 er_6 => ?_)
    have er_6 := er_6.symm
    subst er_6
    refine lv_goto (tgt := 17) hx hb dX0_stood_13 (by decide) ?_
    have hf := Option.some.inj hf
    rw [← hQ]
    exact W.iret (v := r_4) hx hb hr (fun t ht hW => ⟨_, rfl, hf, ht⟩) (fun _ h => by cases h) dX0_stood_17
abbrev rX0_letters : Room := { frames := 2, cells := 0, slots := 0, locals := 47 }
set_option maxHeartbeats 4000000 in
theorem wX0_letters (l : Launch) (g : GG) (ad : Nat → Nat) (S : XS) (a1 : Int32) (rf : Int32) (hf : fX0_letters S a1 = some rf) : Met l yX0_letters (ws_ yX0_letters cX0_letters 4 (some .int)) rX0_letters (va_Pc [.ref (ad 0), .int a1] (fun Ux => PP g (WX g ad S) Ux.heap ∧ EV g Ux)) (vp_Si (fun y => y = rf)) 0 0 (fun _ => False) := by
  refine sm_st (by decide) ?_
  intro p e s m args below meth c hx hb hr hlocks hml hown hnm hts hv
  obtain ⟨hargs, hP, hE⟩ := hv
  obtain ⟨hK, hN⟩ := id hE
  have hown : s.vm.findClass RX0 = some m.cls := hown
  refine sm_en _ (Nat.le_of_ble_eq_true rfl) hargs (fun ls hl => ?_)
  have hl : lv_has ls 4 [(0, .ref (ad 0)), (1, .int a1)] := hl
  generalize hQ : MQ below _ args s _ _ _ = Q
  unfold fX0_letters at hf
  refine lv_iload_n hx hb dX0_letters_0 rfl (lv_at hl 1 rfl) ?_
  refine lv_bipush (v := (-9)) hx hb dX0_letters_1 (by decide) ?_
  obtain ⟨q_7, hf, hq_2⟩ := sm_r_e hf
  suffices hj_1 : ∀ (ls : Array Slot), q_7 = Sum.inl () → lv_has ls 4 [(0, .ref (ad 0)), (1, .int a1)] → W p l e rX0_letters s m args below meth c s.heap [] 0 0 Q (F0 m 16 ls []) from by
    refine lv_icmp_eq (tgt := 16) hx hb dX0_letters_3 (by decide) (fun c_3 => ?_) (fun c_3 => ?_)
    · have hf := (if_pos c_3).symm.trans hf
      cases hf
      exact hj_1 _ rfl (lv_sub hl [0, 1] rfl)
    · have hf := (if_neg c_3).symm.trans hf
      refine lv_aload_n hx hb dX0_letters_6 rfl (lv_at hl 0 rfl) ?_
      refine lv_iload_n hx hb dX0_letters_7 rfl (lv_at hl 1 rfl) ?_
      refine vp_callSi (W.runV (As := [.int a1]) (rest := []) ⟨hx, hb, hml, hown, hts⟩ (wX0_isPlace l g ad S a1 (fX0_isPlace S a1) rfl) (cwV 1 hts (lw_V q761 q763 qs17 q60 q764) rfl rfl rfl (by decide +kernel) ⟨Nat.le_of_ble_eq_true rfl, Nat.le_of_ble_eq_true rfl⟩) (sm_pv hE hP (va_recv hK hP (ci := 0) (q0 := 0) rfl rfl)) rfl rfl hl.1 rfl (lv_room (Nat.le_of_ble_eq_true rfl)) dX0_letters_8 ⟨Nat.le_of_ble_eq_true rfl, Nat.le_of_ble_eq_true rfl⟩) (fun r_5 er_4 => ?_)
      have er_4 := er_4.symm
      subst er_4
      refine lv_if_ne (tgt := 16) hx hb dX0_letters_11 (by decide) (fun c_6 => ?_) (fun c_6 => ?_)
      · have hf := (if_neg c_6).symm.trans hf
        cases hf
        exact hj_1 _ rfl (lv_sub hl [0, 1] rfl)
      · have hf := (if_pos c_6).symm.trans hf
        refine lv_iconst (v := (-1)) hx hb dX0_letters_14 (by decide) ?_
        cases hf
        have hf := hq_2
        dsimp only [Sum.elim_inr] at hf
        have hf := Option.some.inj hf
        rw [← hQ]
        exact W.iret (v := (-1)) hx hb hr (fun t ht hW => ⟨_, rfl, hf, ht⟩) (fun _ h => by cases h) dX0_letters_15
  intro ls eq_ hl
  subst eq_
  have hf := hq_2
  dsimp only [Sum.elim_inl, sm_u1] at hf
  refine lv_aload_n hx hb dX0_letters_16 rfl (lv_at hl 0 rfl) ?_
  refine va_get (D := (g.1, g.2.1)) (ci := 0) (v := .int (S.1 12)) (C := RX0) (T := TX0) (N := 20) hx hb hts in_X0 hown hK hP 0 rfl rfl 12 (by decide) (hts _ q284) (fun _ h9 => h9) rfl dX0_letters_17 ?_
  obtain ⟨x_8, hf, hf0⟩ := sm_b1_e hf
  suffices hj_9 : ∀ (ls : Array Slot), lv_has ls 4 [(0, .ref (ad 0)), (1, .int a1)] → W p l e rX0_letters s m args below meth c s.heap [] 0 0 Q (F0 m 28 ls [.int x_8]) from by
    refine lv_if_ne (tgt := 27) hx hb dX0_letters_20 (by decide) (fun c_10 => ?_) (fun c_10 => ?_)
    · have hf := (if_neg c_10).symm.trans hf
      refine lv_iconst (v := 1) hx hb dX0_letters_27 (by decide) ?_
      cases hf
      exact hj_9 _ (lv_sub hl [0, 1] rfl)
    · have hf := (if_pos c_10).symm.trans hf
      refine lv_iconst (v := 0) hx hb dX0_letters_23 (by decide) ?_
      refine lv_goto (tgt := 28) hx hb dX0_letters_24 (by decide) ?_
      cases hf
      exact hj_9 _ (lv_sub hl [0, 1] rfl)
  intro ls hl
  have hf := hf0
  refine lv_istore_n (lv' := [(2, .int x_8), (0, .ref (ad 0)), (1, .int a1)]) hx hb dX0_letters_28 rfl hl (by decide) rfl (fun ls hl => ?_)
  refine lv_iconst (v := 0) hx hb dX0_letters_29 (by decide) ?_
  refine lv_istore_n (lv' := [(3, .int 0), (2, .int x_8), (0, .ref (ad 0)), (1, .int a1)]) hx hb dX0_letters_30 rfl hl (by decide) rfl (fun ls hl => ?_)
  have L_18 : ∀ (n : Nat) (x_11 : Int32) (x_12 : Int32) (o_19 : Int32) (o_20 : Int32) (ls : Array Slot), sm_lp (fun q => fX0_letters_31 S q.1 q.2) n (x_11, x_12) = some (o_19, o_20) → lv_has ls 4 [(0, .ref (ad 0)), (1, .int a1), (3, .int x_11), (2, .int x_12)] → (∀ (ls : Array Slot), lv_has ls 4 [(0, .ref (ad 0)), (1, .int a1), (3, .int o_19), (2, .int o_20)] → W p l e rX0_letters s m args below meth c s.heap [] 0 0 Q (F0 m 63 ls [])) → W p l e rX0_letters s m args below meth c s.heap [] 0 0 Q (F0 m 31 ls []) := by
    intro n
    induction n with
    | zero =>
      intro _ _ _ _ _ hf
      cases hf
    | succ n ih_13 =>
      intro x_11 x_12 o_19 o_20 ls hf hl kx_14
      obtain ⟨q, hf, hc_17⟩ := sm_bnd hf
      have hf : fX0_letters_31 S x_11 x_12 = some q := hf
      unfold fX0_letters_31 at hf
      refine lv_iload_n hx hb dX0_letters_31 rfl (lv_at hl 2 rfl) ?_
      refine lv_aload_n hx hb dX0_letters_32 rfl (lv_at hl 0 rfl) ?_
      refine va_get (D := (g.1, g.2.1)) (ci := 0) (v := .int (S.1 13)) (C := RX0) (T := TX0) (N := 20) hx hb hts in_X0 hown hK hP 0 rfl rfl 13 (by decide) (hts _ q285) (fun _ h9 => h9) rfl dX0_letters_33 ?_
      refine lv_icmp_ge (tgt := 63) hx hb dX0_letters_36 (by decide) (fun c_21 => ?_) (fun c_21 => ?_)
      · have hf := (if_pos c_21).symm.trans hf
        cases hf
        have hc_17 : some (x_11, x_12) = some (o_19, o_20) := hc_17
        cases hc_17
        exact kx_14 _ (lv_sub hl [0, 1, 2, 3] rfl)
      · have hf := (if_neg c_21).symm.trans hf
        refine lv_aload_n hx hb dX0_letters_39 rfl (lv_at hl 0 rfl) ?_
        refine va_get (D := (g.1, g.2.1)) (ci := 0) (v := .int (S.1 12)) (C := RX0) (T := TX0) (N := 20) hx hb hts in_X0 hown hK hP 0 rfl rfl 12 (by decide) (hts _ q284) (fun _ h9 => h9) rfl dX0_letters_40 ?_
        refine lv_if_le (tgt := 63) hx hb dX0_letters_43 (by decide) (fun c_22 => ?_) (fun c_22 => ?_)
        · have hf := (if_pos c_22).symm.trans hf
          cases hf
          have hc_17 : some (x_11, x_12) = some (o_19, o_20) := hc_17
          cases hc_17
          exact kx_14 _ (lv_sub hl [0, 1, 2, 3] rfl)
        · have hf := (if_neg c_22).symm.trans hf
          refine lv_iload_n hx hb dX0_letters_46 rfl (lv_at hl 3 rfl) ?_
          refine lv_aload_n hx hb dX0_letters_47 rfl (lv_at hl 0 rfl) ?_
          refine lv_iload_n hx hb dX0_letters_48 rfl (lv_at hl 2 rfl) ?_
          obtain ⟨r_23, h_24, hf⟩ := sm_b1_e hf
          refine vp_callSi (W.runV (As := [.int x_11]) (rest := [.int x_12]) ⟨hx, hb, hml, hown, hts⟩ (wX0_stoodAt l g ad S x_11 r_23 h_24) (cwV 1 hts (lw_V q765 q767 qs18 q60 q768) rfl rfl rfl (by decide +kernel) ⟨Nat.le_of_ble_eq_true rfl, Nat.le_of_ble_eq_true rfl⟩) (sm_pv hE hP (va_recv hK hP (ci := 0) (q0 := 0) rfl rfl)) rfl rfl hl.1 rfl (lv_room (Nat.le_of_ble_eq_true rfl)) dX0_letters_49 ⟨Nat.le_of_ble_eq_true rfl, Nat.le_of_ble_eq_true rfl⟩) (fun r_26 er_25 => ?_)
          have er_25 := er_25.symm
          subst er_25
          refine vp_callSi (W.runS (As := [.int r_23]) (rest := [.int x_12]) ⟨hx, hb, hml, hown, hts⟩ (wJ10_bitCount l r_23 (fJ10_bitCount r_23) rfl) (va_cwS 1 hts (lw_S q653 q654 q83 q655) rfl rfl rfl (by decide +kernel) ⟨Nat.le_of_ble_eq_true rfl, Nat.le_of_ble_eq_true rfl⟩) (sm_ps) rfl rfl hl.1 rfl (lv_room (Nat.le_of_ble_eq_true rfl)) dX0_letters_52 ⟨Nat.le_of_ble_eq_true rfl, Nat.le_of_ble_eq_true rfl⟩) (fun r_28 er_27 => ?_)
          have er_27 := er_27.symm
          subst er_27
          refine lv_imul hx hb dX0_letters_55 ?_
          refine lv_topi (fun x_29 ex_29 => ?_)
          have hf := sm_lt_v hf ex_29
          refine lv_istore_n (lv' := [(2, .int x_29), (0, .ref (ad 0)), (1, .int a1), (3, .int x_11)]) hx hb dX0_letters_56 rfl hl (by decide) rfl (fun ls hl => ?_)
          refine lv_iinc (v := x_11 + 1) (lv' := [(3, .int (x_11 + 1)), (2, .int x_29), (0, .ref (ad 0)), (1, .int a1)]) hx hb dX0_letters_57 hl (k := 3) rfl rfl (by decide) rfl (fun ls hl => ?_)
          refine lv_goto (tgt := 31) hx hb dX0_letters_60 (by decide) ?_
          cases hf
          exact ih_13 _ _ _ _ _ hc_17 (lv_sub hl [2, 3, 0, 1] rfl) kx_14
  obtain ⟨x_31, x_32, ho, hf⟩ := sm_b2_e hf
  refine L_18 FU 0 x_8 x_31 x_32 ls ho (lv_sub hl [2, 3, 0, 1] rfl) ?_
  intro ls hl
  refine lv_iload_n hx hb dX0_letters_63 rfl (lv_at hl 1 rfl) ?_
  refine lv_bipush (v := (-9)) hx hb dX0_letters_64 (by decide) ?_
  refine lv_icmp_ne (tgt := 71) hx hb dX0_letters_66 (by decide) (fun c_33 => ?_) (fun c_33 => ?_)
  · have hf := (if_neg c_33).symm.trans hf
    refine lv_aload_n hx hb dX0_letters_71 rfl (lv_at hl 0 rfl) ?_
    refine lv_iload_n hx hb dX0_letters_72 rfl (lv_at hl 1 rfl) ?_
    obtain ⟨r_34, h_35, hf⟩ := sm_b1_e hf
    refine vp_callSi (W.runV (As := [.int a1]) (rest := []) ⟨hx, hb, hml, hown, hts⟩ (wX0_stoodAt l g ad S a1 r_34 h_35) (cwV 1 hts (lw_V q765 q767 qs18 q60 q768) rfl rfl rfl (by decide +kernel) ⟨Nat.le_of_ble_eq_true rfl, Nat.le_of_ble_eq_true rfl⟩) (sm_pv hE hP (va_recv hK hP (ci := 0) (q0 := 0) rfl rfl)) rfl rfl hl.1 rfl (lv_room (Nat.le_of_ble_eq_true rfl)) dX0_letters_73 ⟨Nat.le_of_ble_eq_true rfl, Nat.le_of_ble_eq_true rfl⟩) (fun r_37 er_36 => ?_)
    have er_36 := er_36.symm
    subst er_36
    refine lv_istore_n (lv' := [(3, .int r_34), (0, .ref (ad 0)), (1, .int a1), (2, .int x_32)]) hx hb dX0_letters_76 rfl hl (by decide) rfl (fun ls hl => ?_)
    refine lv_iload_n hx hb dX0_letters_77 rfl (lv_at hl 3 rfl) ?_
    refine lv_if_ne (tgt := 86) hx hb dX0_letters_78 (by decide) (fun c_38 => ?_) (fun c_38 => ?_)
    · have hf := (if_neg c_38).symm.trans hf
      refine lv_iload_n hx hb dX0_letters_86 rfl (lv_at hl 0 rfl) ?_
      refine vp_callSi (W.runS (As := [.int r_34]) (rest := []) ⟨hx, hb, hml, hown, hts⟩ (wJ10_bitCount l r_34 (fJ10_bitCount r_34) rfl) (va_cwS 1 hts (lw_S q653 q654 q83 q655) rfl rfl rfl (by decide +kernel) ⟨Nat.le_of_ble_eq_true rfl, Nat.le_of_ble_eq_true rfl⟩) (sm_ps) rfl rfl hl.1 rfl (lv_room (Nat.le_of_ble_eq_true rfl)) dX0_letters_87 ⟨Nat.le_of_ble_eq_true rfl, Nat.le_of_ble_eq_true rfl⟩) (fun r_40 er_39 => ?_)
      have er_39 := er_39.symm
      subst er_39
      refine lv_iconst (v := 1) hx hb dX0_letters_90 (by decide) ?_
      refine lv_icmp_le (tgt := 99) hx hb dX0_letters_91 (by decide) (fun c_41 => ?_) (fun c_41 => ?_)
      · have hf := (if_pos c_41).symm.trans hf
        refine lv_iload_n hx hb dX0_letters_99 rfl (lv_at hl 0 rfl) ?_
        obtain ⟨r_42, h_43, hf⟩ := sm_b1_e hf
        refine vp_callSi (W.runS (As := [.int r_34]) (rest := []) ⟨hx, hb, hml, hown, hts⟩ (wJ10_numberOfTrailingZeros l r_34 r_42 h_43) (va_cwS 1 hts (lw_S q773 q774 q83 q775) rfl rfl rfl (by decide +kernel) ⟨Nat.le_of_ble_eq_true rfl, Nat.le_of_ble_eq_true rfl⟩) (sm_ps) rfl rfl hl.1 rfl (lv_room (Nat.le_of_ble_eq_true rfl)) dX0_letters_100 ⟨Nat.le_of_ble_eq_true rfl, Nat.le_of_ble_eq_true rfl⟩) (fun r_45 er_44 => ?_)
        have er_44 := er_44.symm
        subst er_44
        have hf := Option.some.inj hf
        rw [← hQ]
        exact W.iret (v := r_42) hx hb hr (fun t ht hW => ⟨_, rfl, hf, ht⟩) (fun _ h => by cases h) dX0_letters_103
      · have hf := (if_neg c_41).symm.trans hf
        refine lv_bipush (v := (-5)) hx hb dX0_letters_94 (by decide) ?_
        refine lv_goto (tgt := 103) hx hb dX0_letters_96 (by decide) ?_
        have hf := Option.some.inj hf
        rw [← hQ]
        exact W.iret (v := (-5)) hx hb hr (fun t ht hW => ⟨_, rfl, hf, ht⟩) (fun _ h => by cases h) dX0_letters_103
    · have hf := (if_pos c_38).symm.trans hf
      refine lv_bipush (v := (-9)) hx hb dX0_letters_81 (by decide) ?_
      refine lv_goto (tgt := 103) hx hb dX0_letters_83 (by decide) ?_
      have hf := Option.some.inj hf
      rw [← hQ]
      exact W.iret (v := (-9)) hx hb hr (fun t ht hW => ⟨_, rfl, hf, ht⟩) (fun _ h => by cases h) dX0_letters_103
  · have hf := (if_pos c_33).symm.trans hf
    refine lv_iload_n hx hb dX0_letters_69 rfl (lv_at hl 3 rfl) ?_
    have hf := Option.some.inj hf
    rw [← hQ]
    exact W.iret (v := x_32) hx hb hr (fun t ht hW => ⟨_, rfl, hf, ht⟩) (fun _ h => by cases h) dX0_letters_70
abbrev rX0_isLetter : Room := { frames := 0, cells := 0, slots := 0, locals := 0 }
set_option maxHeartbeats 4000000 in
theorem wX0_isLetter (l : Launch) (g : GG) (ad : Nat → Nat) (S : XS) (a1 : Int32) (Sf : XS) (rf : Int32) (hf : fX0_isLetter S a1 = some (Sf, rf)) : Met l yX0_isLetter (ws_ yX0_isLetter cX0_isLetter 6 (some .boolean)) rX0_isLetter (va_Pc [.ref (ad 0), .int a1] (fun Ux => PP g (WX g ad S) Ux.heap ∧ EV g Ux ∧ va_D (AX ad) (WX g ad S))) (va_Qi (fun y (_ : Unit) => y = rf) (fun _ t => PP g (WX g ad Sf) t.heap ∧ va_D (AX ad) (WX g ad Sf)) (AX ad)) 0 0 (AX ad) := by
  refine sm_st (by decide) ?_
  intro p e s m args below meth c hx hb hr hlocks hml hown hnm hts hv
  obtain ⟨hargs, hP, hE, hD⟩ := hv
  obtain ⟨hK, hN⟩ := id hE
  have hS : va_S (AX ad) s.heap s.heap [] := va_S.rf
  have hown : s.vm.findClass RX0 = some m.cls := hown
  refine sm_en _ (Nat.le_of_ble_eq_true rfl) hargs (fun ls hl => ?_)
  have hl : lv_has ls 6 [(0, .ref (ad 0)), (1, .int a1)] := hl
  generalize hQ : MQ below _ args s _ _ _ = Q
  unfold fX0_isLetter at hf
  refine lv_iload_n hx hb dX0_isLetter_0 rfl (lv_at hl 1 rfl) ?_
  refine lv_istore_n (lv' := [(2, .int a1), (0, .ref (ad 0)), (1, .int a1)]) hx hb dX0_isLetter_1 rfl hl (by decide) rfl (fun ls hl => ?_)
  refine lv_aload_n hx hb dX0_isLetter_2 rfl (lv_at hl 1 rfl) ?_
  refine lv_iconst (v := 0) hx hb dX0_isLetter_3 (by decide) ?_
  refine va_put (D := (g.1, g.2.1)) (ci := 0) (v := .int 0) (ty := .int) (C := RX0) (T := TX0) (N := 20) hx hb hts in_X0 tyX0 tyX0_ok nmX0 hown hK hP hD hS 0 rfl rfl 15 (by decide) (hts _ q287) (fun _ h9 => h9) rfl (by decide +kernel) rfl rfl (Nat.le_of_ble_eq_true rfl) dX0_isLetter_4 (fun H locs hP hD hS => ?_)
  obtain ⟨S_1, eS_1, hf⟩ := sm_lt_e hf
  have hP : PP g (WX g ad S_1) H := by rw [eS_1]; exact pxf15 hP
  have hD : va_D (AX ad) (WX g ad S_1) := by rw [eS_1]; exact dxf15 hD
  have L_9 : ∀ (n : Nat) (x_2 : Int32) (S_3 : XS) (o_10 : Int32) (o_11 : XS) (H : Heap) (locs : List Loc) (ls : Array Slot), sm_lp (fun q => fX0_isLetter_7 q.1 q.2) n (x_2, S_3) = some (o_10, o_11) → PP g (WX g ad S_3) H → va_D (AX ad) (WX g ad S_3) → va_S (AX ad) s.heap H locs → lv_has ls 6 [(0, .ref (ad 0)), (1, .int a1), (2, .int x_2)] → (∀ (H : Heap) (locs : List Loc) (ls : Array Slot), PP g (WX g ad o_11) H → va_D (AX ad) (WX g ad o_11) → va_S (AX ad) s.heap H locs → lv_has ls 6 [(0, .ref (ad 0)), (1, .int a1), (2, .int o_10)] → W p l e rX0_isLetter s m args below meth c H locs 0 0 Q (F0 m 52 ls [])) → W p l e rX0_isLetter s m args below meth c H locs 0 0 Q (F0 m 7 ls []) := by
    intro n
    induction n with
    | zero =>
      intro _ _ _ _ _ _ _ hf
      cases hf
    | succ n ih_4 =>
      intro x_2 S_3 o_10 o_11 H locs ls hf hP hD hS hl kx_5
      obtain ⟨q, hf, hc_8⟩ := sm_bnd hf
      have hf : fX0_isLetter_7 x_2 S_3 = some q := hf
      unfold fX0_isLetter_7 at hf
      refine lv_iload_n hx hb dX0_isLetter_7 rfl (lv_at hl 2 rfl) ?_
      refine lv_bipush (v := 11) hx hb dX0_isLetter_8 (by decide) ?_
      refine lv_icmp_lt (tgt := 52) hx hb dX0_isLetter_10 (by decide) (fun c_12 => ?_) (fun c_12 => ?_)
      · have hf := (if_pos c_12).symm.trans hf
        cases hf
        have hc_8 : some (x_2, S_3) = some (o_10, o_11) := hc_8
        cases hc_8
        exact kx_5 _ _ _ hP hD hS (lv_sub hl [0, 1, 2] rfl)
      · have hf := (if_neg c_12).symm.trans hf
        refine lv_aload_n hx hb dX0_isLetter_13 rfl (lv_at hl 0 rfl) ?_
        refine va_get (D := (g.1, g.2.1)) (ci := 0) (v := .int (S_3.1 15)) (C := RX0) (T := TX0) (N := 20) hx hb hts in_X0 hown hK hP 0 rfl rfl 15 (by decide) (hts _ q287) (fun _ h9 => h9) rfl dX0_isLetter_14 ?_
        refine lv_iconst (v := 5) hx hb dX0_isLetter_17 (by decide) ?_
        refine lv_icmp_ge (tgt := 52) hx hb dX0_isLetter_18 (by decide) (fun c_13 => ?_) (fun c_13 => ?_)
        · have hf := (if_pos c_13).symm.trans hf
          cases hf
          have hc_8 : some (x_2, S_3) = some (o_10, o_11) := hc_8
          cases hc_8
          exact kx_5 _ _ _ hP hD hS (lv_sub hl [0, 1, 2] rfl)
        · have hf := (if_neg c_13).symm.trans hf
          refine lv_aload_n hx hb dX0_isLetter_21 rfl (lv_at hl 0 rfl) ?_
          refine va_get (D := (g.1, g.2.1)) (ci := 0) (v := .ref (ad 17)) (C := RX0) (T := TX0) (N := 20) hx hb hts in_X0 hown hK hP 0 rfl rfl 14 (by decide) (hts _ q286) (fun _ h9 => h9) rfl dX0_isLetter_22 ?_
          refine lv_aload_n hx hb dX0_isLetter_25 rfl (lv_at hl 0 rfl) ?_
          refine va_get (D := (g.1, g.2.1)) (ci := 0) (v := .int (S_3.1 15)) (C := RX0) (T := TX0) (N := 20) hx hb hts in_X0 hown hK hP 0 rfl rfl 15 (by decide) (hts _ q287) (fun _ h9 => h9) rfl dX0_isLetter_26 ?_
          refine lv_iload_n hx hb dX0_isLetter_29 rfl (lv_at hl 2 rfl) ?_
          refine lv_bipush (v := 11) hx hb dX0_isLetter_30 (by decide) ?_
          refine lv_irem hx hb dX0_isLetter_32 (by decide) ?_
          obtain ⟨hg, hf⟩ := sm_gd_e hf
          refine va_iast (i := S_3.1 15) (x := x_2 - x_2 / 11 * 11) hx hb hK hP hD hS 17 0 rfl rfl (sm_in hg) dX0_isLetter_33 (fun H locs hP hD hS => ?_)
          obtain ⟨S_14, eS_14, hf⟩ := sm_lt_e hf
          have hP : PP g (WX g ad S_14) H := by rw [eS_14]; exact pxr14 hP
          have hD : va_D (AX ad) (WX g ad S_14) := by rw [eS_14]; exact dxr14 hD
          refine lv_iload_n hx hb dX0_isLetter_34 rfl (lv_at hl 2 rfl) ?_
          refine lv_bipush (v := 11) hx hb dX0_isLetter_35 (by decide) ?_
          refine lv_idiv hx hb dX0_isLetter_37 (by decide) ?_
          refine lv_istore_n (lv' := [(2, .int (x_2 / 11)), (0, .ref (ad 0)), (1, .int a1)]) hx hb dX0_isLetter_38 rfl hl (by decide) rfl (fun ls hl => ?_)
          refine lv_aload_n hx hb dX0_isLetter_39 rfl (lv_at hl 1 rfl) ?_
          refine lv_dup hx hb dX0_isLetter_40 rfl ?_
          refine va_get (D := (g.1, g.2.1)) (ci := 0) (v := .int (S_14.1 15)) (C := RX0) (T := TX0) (N := 20) hx hb hts in_X0 hown hK hP 0 rfl rfl 15 (by decide) (hts _ q287) (fun _ h9 => h9) rfl dX0_isLetter_41 ?_
          refine lv_iconst (v := 1) hx hb dX0_isLetter_44 (by decide) ?_
          refine lv_iadd hx hb dX0_isLetter_45 ?_
          refine va_put (D := (g.1, g.2.1)) (ci := 0) (v := .int ((S_14.1 15) + 1)) (ty := .int) (C := RX0) (T := TX0) (N := 20) hx hb hts in_X0 tyX0 tyX0_ok nmX0 hown hK hP hD hS 0 rfl rfl 15 (by decide) (hts _ q287) (fun _ h9 => h9) rfl (by decide +kernel) rfl rfl (Nat.le_of_ble_eq_true rfl) dX0_isLetter_46 (fun H locs hP hD hS => ?_)
          obtain ⟨S_15, eS_15, hf⟩ := sm_lt_e hf
          have hP : PP g (WX g ad S_15) H := by rw [eS_15]; exact pxf15 hP
          have hD : va_D (AX ad) (WX g ad S_15) := by rw [eS_15]; exact dxf15 hD
          refine lv_goto (tgt := 7) hx hb dX0_isLetter_49 (by decide) ?_
          cases hf
          exact ih_4 _ _ _ _ _ _ _ hc_8 hP hD hS (lv_sub hl [1, 2, 0] rfl) kx_5
  obtain ⟨x_17, S_18, ho, hf⟩ := sm_b2_e hf
  refine L_9 FU a1 S_1 x_17 S_18 H locs ls ho hP hD hS (lv_sub hl [1, 2, 0] rfl) ?_
  intro H locs ls hP hD hS hl
  refine lv_iload_n hx hb dX0_isLetter_52 rfl (lv_at hl 2 rfl) ?_
  refine lv_iconst (v := 1) hx hb dX0_isLetter_53 (by decide) ?_
  obtain ⟨x_19, hf, hf0⟩ := sm_b1_e hf
  suffices hj_20 : ∀ (ls : Array Slot), lv_has ls 6 [(0, .ref (ad 0)), (1, .int a1), (2, .int x_17)] → W p l e rX0_isLetter s m args below meth c H locs 0 0 Q (F0 m 69 ls [.int x_19]) from by
    refine lv_icmp_ne (tgt := 68) hx hb dX0_isLetter_54 (by decide) (fun c_21 => ?_) (fun c_21 => ?_)
    · have hf := (if_neg c_21).symm.trans hf
      refine lv_iconst (v := 0) hx hb dX0_isLetter_68 (by decide) ?_
      cases hf
      exact hj_20 _ (lv_sub hl [0, 1, 2] rfl)
    · have hf := (if_pos c_21).symm.trans hf
      refine lv_aload_n hx hb dX0_isLetter_57 rfl (lv_at hl 0 rfl) ?_
      refine va_get (D := (g.1, g.2.1)) (ci := 0) (v := .int (S_18.1 15)) (C := RX0) (T := TX0) (N := 20) hx hb hts in_X0 hown hK hP 0 rfl rfl 15 (by decide) (hts _ q287) (fun _ h9 => h9) rfl dX0_isLetter_58 ?_
      refine lv_if_le (tgt := 68) hx hb dX0_isLetter_61 (by decide) (fun c_22 => ?_) (fun c_22 => ?_)
      · have hf := (if_pos c_22).symm.trans hf
        refine lv_iconst (v := 0) hx hb dX0_isLetter_68 (by decide) ?_
        cases hf
        exact hj_20 _ (lv_sub hl [0, 1, 2] rfl)
      · have hf := (if_neg c_22).symm.trans hf
        refine lv_iconst (v := 1) hx hb dX0_isLetter_64 (by decide) ?_
        refine lv_goto (tgt := 69) hx hb dX0_isLetter_65 (by decide) ?_
        cases hf
        exact hj_20 _ (lv_sub hl [0, 1, 2] rfl)
  intro ls hl
  have hf := hf0
  refine lv_istore_n (lv' := [(3, .int x_19), (0, .ref (ad 0)), (1, .int a1), (2, .int x_17)]) hx hb dX0_isLetter_69 rfl hl (by decide) rfl (fun ls hl => ?_)
  refine lv_iconst (v := 0) hx hb dX0_isLetter_70 (by decide) ?_
  refine lv_istore (lv' := [(4, .int 0), (3, .int x_19), (0, .ref (ad 0)), (1, .int a1), (2, .int x_17)]) hx hb dX0_isLetter_71 hl (by decide) rfl (fun ls hl => ?_)
  have L_30 : ∀ (n : Nat) (x_23 : Int32) (x_24 : Int32) (o_31 : Int32) (o_32 : Int32) (ls : Array Slot), sm_lp (fun q => fX0_isLetter_73 S_18 q.1 q.2) n (x_23, x_24) = some (o_31, o_32) → lv_has ls 6 [(0, .ref (ad 0)), (1, .int a1), (2, .int x_17), (4, .int x_23), (3, .int x_24)] → (∀ (ls : Array Slot), lv_has ls 6 [(0, .ref (ad 0)), (1, .int a1), (2, .int x_17), (4, .int o_31), (3, .int o_32)] → W p l e rX0_isLetter s m args below meth c H locs 0 0 Q (F0 m 110 ls [])) → W p l e rX0_isLetter s m args below meth c H locs 0 0 Q (F0 m 73 ls []) := by
    intro n
    induction n with
    | zero =>
      intro _ _ _ _ _ hf
      cases hf
    | succ n ih_25 =>
      intro x_23 x_24 o_31 o_32 ls hf hl kx_26
      obtain ⟨q, hf, hc_29⟩ := sm_bnd hf
      have hf : fX0_isLetter_73 S_18 x_23 x_24 = some q := hf
      unfold fX0_isLetter_73 at hf
      refine lv_iload hx hb dX0_isLetter_73 (lv_at hl 3 rfl) ?_
      refine lv_aload_n hx hb dX0_isLetter_75 rfl (lv_at hl 0 rfl) ?_
      refine va_get (D := (g.1, g.2.1)) (ci := 0) (v := .int (S_18.1 15)) (C := RX0) (T := TX0) (N := 20) hx hb hts in_X0 hown hK hP 0 rfl rfl 15 (by decide) (hts _ q287) (fun _ h9 => h9) rfl dX0_isLetter_76 ?_
      refine lv_icmp_ge (tgt := 110) hx hb dX0_isLetter_79 (by decide) (fun c_33 => ?_) (fun c_33 => ?_)
      · have hf := (if_pos c_33).symm.trans hf
        cases hf
        have hc_29 : some (x_23, x_24) = some (o_31, o_32) := hc_29
        cases hc_29
        exact kx_26 _ (lv_sub hl [0, 1, 2, 3, 4] rfl)
      · have hf := (if_neg c_33).symm.trans hf
        refine lv_iload_n hx hb dX0_isLetter_82 rfl (lv_at hl 4 rfl) ?_
        refine lv_if_eq (tgt := 102) hx hb dX0_isLetter_83 (by decide) (fun c_34 => ?_) (fun c_34 => ?_)
        · have hf := (if_pos c_34).symm.trans hf
          refine lv_iconst (v := 0) hx hb dX0_isLetter_102 (by decide) ?_
          refine lv_istore_n (lv' := [(3, .int 0), (0, .ref (ad 0)), (1, .int a1), (2, .int x_17), (4, .int x_23)]) hx hb dX0_isLetter_103 rfl hl (by decide) rfl (fun ls hl => ?_)
          refine lv_iinc (v := x_23 + 1) (lv' := [(4, .int (x_23 + 1)), (3, .int 0), (0, .ref (ad 0)), (1, .int a1), (2, .int x_17)]) hx hb dX0_isLetter_104 hl (k := 4) rfl rfl (by decide) rfl (fun ls hl => ?_)
          refine lv_goto (tgt := 73) hx hb dX0_isLetter_107 (by decide) ?_
          cases hf
          exact ih_25 _ _ _ _ _ hc_29 (lv_sub hl [2, 3, 4, 0, 1] rfl) kx_26
        · have hf := (if_neg c_34).symm.trans hf
          refine lv_aload_n hx hb dX0_isLetter_86 rfl (lv_at hl 0 rfl) ?_
          refine va_get (D := (g.1, g.2.1)) (ci := 0) (v := .ref (ad 17)) (C := RX0) (T := TX0) (N := 20) hx hb hts in_X0 hown hK hP 0 rfl rfl 14 (by decide) (hts _ q286) (fun _ h9 => h9) rfl dX0_isLetter_87 ?_
          refine lv_iload hx hb dX0_isLetter_90 (lv_at hl 3 rfl) ?_
          obtain ⟨hg, hf⟩ := sm_gd_e hf
          refine va_iald hx hb hK hP 17 0 rfl rfl (sm_in hg) dX0_isLetter_92 ?_
          refine lv_bipush (v := 10) hx hb dX0_isLetter_93 (by decide) ?_
          refine lv_icmp_ge (tgt := 102) hx hb dX0_isLetter_95 (by decide) (fun c_35 => ?_) (fun c_35 => ?_)
          · have hf := (if_pos c_35).symm.trans hf
            refine lv_iconst (v := 0) hx hb dX0_isLetter_102 (by decide) ?_
            refine lv_istore_n (lv' := [(3, .int 0), (0, .ref (ad 0)), (1, .int a1), (2, .int x_17), (4, .int x_23)]) hx hb dX0_isLetter_103 rfl hl (by decide) rfl (fun ls hl => ?_)
            refine lv_iinc (v := x_23 + 1) (lv' := [(4, .int (x_23 + 1)), (3, .int 0), (0, .ref (ad 0)), (1, .int a1), (2, .int x_17)]) hx hb dX0_isLetter_104 hl (k := 4) rfl rfl (by decide) rfl (fun ls hl => ?_)
            refine lv_goto (tgt := 73) hx hb dX0_isLetter_107 (by decide) ?_
            cases hf
            exact ih_25 _ _ _ _ _ hc_29 (lv_sub hl [2, 3, 4, 0, 1] rfl) kx_26
          · have hf := (if_neg c_35).symm.trans hf
            refine lv_iconst (v := 1) hx hb dX0_isLetter_98 (by decide) ?_
            refine lv_goto (tgt := 103) hx hb dX0_isLetter_99 (by decide) ?_
            refine lv_istore_n (lv' := [(3, .int 1), (0, .ref (ad 0)), (1, .int a1), (2, .int x_17), (4, .int x_23)]) hx hb dX0_isLetter_103 rfl hl (by decide) rfl (fun ls hl => ?_)
            refine lv_iinc (v := x_23 + 1) (lv' := [(4, .int (x_23 + 1)), (3, .int 1), (0, .ref (ad 0)), (1, .int a1), (2, .int x_17)]) hx hb dX0_isLetter_104 hl (k := 4) rfl rfl (by decide) rfl (fun ls hl => ?_)
            refine lv_goto (tgt := 73) hx hb dX0_isLetter_107 (by decide) ?_
            cases hf
            exact ih_25 _ _ _ _ _ hc_29 (lv_sub hl [2, 3, 4, 0, 1] rfl) kx_26
  obtain ⟨x_37, x_38, ho, hf⟩ := sm_b2_e hf
  refine L_30 FU 0 x_19 x_37 x_38 ls ho (lv_sub hl [2, 3, 4, 0, 1] rfl) ?_
  intro ls hl
  refine lv_iconst (v := 0) hx hb dX0_isLetter_110 (by decide) ?_
  refine lv_istore (lv' := [(4, .int 0), (0, .ref (ad 0)), (1, .int a1), (2, .int x_17), (3, .int x_38)]) hx hb dX0_isLetter_111 hl (by decide) rfl (fun ls hl => ?_)
  have L_46 : ∀ (n : Nat) (x_39 : Int32) (S_40 : XS) (o_47 : Int32) (o_48 : XS) (H : Heap) (locs : List Loc) (ls : Array Slot), sm_lp (fun q => fX0_isLetter_113 q.1 q.2) n (x_39, S_40) = some (o_47, o_48) → PP g (WX g ad S_40) H → va_D (AX ad) (WX g ad S_40) → va_S (AX ad) s.heap H locs → lv_has ls 6 [(0, .ref (ad 0)), (1, .int a1), (2, .int x_17), (3, .int x_38), (4, .int x_39)] → (∀ (H : Heap) (locs : List Loc) (ls : Array Slot), PP g (WX g ad o_48) H → va_D (AX ad) (WX g ad o_48) → va_S (AX ad) s.heap H locs → lv_has ls 6 [(0, .ref (ad 0)), (1, .int a1), (2, .int x_17), (3, .int x_38), (4, .int o_47)] → W p l e rX0_isLetter s m args below meth c H locs 0 0 Q (F0 m 176 ls [])) → W p l e rX0_isLetter s m args below meth c H locs 0 0 Q (F0 m 113 ls []) := by
    intro n
    induction n with
    | zero =>
      intro _ _ _ _ _ _ _ hf
      cases hf
    | succ n ih_41 =>
      intro x_39 S_40 o_47 o_48 H locs ls hf hP hD hS hl kx_42
      obtain ⟨q, hf, hc_45⟩ := sm_bnd hf
      have hf : fX0_isLetter_113 x_39 S_40 = some q := hf
      unfold fX0_isLetter_113 at hf
      refine lv_iload hx hb dX0_isLetter_113 (lv_at hl 4 rfl) ?_
      refine lv_aload_n hx hb dX0_isLetter_115 rfl (lv_at hl 0 rfl) ?_
      refine va_get (D := (g.1, g.2.1)) (ci := 0) (v := .int (S_40.1 15)) (C := RX0) (T := TX0) (N := 20) hx hb hts in_X0 hown hK hP 0 rfl rfl 15 (by decide) (hts _ q287) (fun _ h9 => h9) rfl dX0_isLetter_116 ?_
      refine lv_iconst (v := 2) hx hb dX0_isLetter_119 (by decide) ?_
      refine lv_idiv hx hb dX0_isLetter_120 (by decide) ?_
      refine lv_icmp_ge (tgt := 176) hx hb dX0_isLetter_121 (by decide) (fun c_49 => ?_) (fun c_49 => ?_)
      · have hf := (if_pos c_49).symm.trans hf
        cases hf
        have hc_45 : some (x_39, S_40) = some (o_47, o_48) := hc_45
        cases hc_45
        exact kx_42 _ _ _ hP hD hS (lv_sub hl [0, 1, 2, 3, 4] rfl)
      · have hf := (if_neg c_49).symm.trans hf
        refine lv_aload_n hx hb dX0_isLetter_124 rfl (lv_at hl 0 rfl) ?_
        refine va_get (D := (g.1, g.2.1)) (ci := 0) (v := .ref (ad 17)) (C := RX0) (T := TX0) (N := 20) hx hb hts in_X0 hown hK hP 0 rfl rfl 14 (by decide) (hts _ q286) (fun _ h9 => h9) rfl dX0_isLetter_125 ?_
        refine lv_iload hx hb dX0_isLetter_128 (lv_at hl 4 rfl) ?_
        obtain ⟨hg, hf⟩ := sm_gd_e hf
        refine va_iald hx hb hK hP 17 0 rfl rfl (sm_in hg) dX0_isLetter_130 ?_
        refine lv_topi (fun x_50 ex_50 => ?_)
        have hf := sm_lt_v hf ex_50
        refine lv_istore (lv' := [(5, .int x_50), (0, .ref (ad 0)), (1, .int a1), (2, .int x_17), (3, .int x_38), (4, .int x_39)]) hx hb dX0_isLetter_131 hl (by decide) rfl (fun ls hl => ?_)
        refine lv_aload_n hx hb dX0_isLetter_133 rfl (lv_at hl 1 rfl) ?_
        refine va_get (D := (g.1, g.2.1)) (ci := 0) (v := .ref (ad 17)) (C := RX0) (T := TX0) (N := 20) hx hb hts in_X0 hown hK hP 0 rfl rfl 14 (by decide) (hts _ q286) (fun _ h9 => h9) rfl dX0_isLetter_134 ?_
        refine lv_iload hx hb dX0_isLetter_137 (lv_at hl 5 rfl) ?_
        refine lv_aload_n hx hb dX0_isLetter_139 rfl (lv_at hl 1 rfl) ?_
        refine va_get (D := (g.1, g.2.1)) (ci := 0) (v := .ref (ad 17)) (C := RX0) (T := TX0) (N := 20) hx hb hts in_X0 hown hK hP 0 rfl rfl 14 (by decide) (hts _ q286) (fun _ h9 => h9) rfl dX0_isLetter_140 ?_
        refine lv_aload_n hx hb dX0_isLetter_143 rfl (lv_at hl 1 rfl) ?_
        refine va_get (D := (g.1, g.2.1)) (ci := 0) (v := .int (S_40.1 15)) (C := RX0) (T := TX0) (N := 20) hx hb hts in_X0 hown hK hP 0 rfl rfl 15 (by decide) (hts _ q287) (fun _ h9 => h9) rfl dX0_isLetter_144 ?_
        refine lv_iconst (v := 1) hx hb dX0_isLetter_147 (by decide) ?_
        refine lv_isub hx hb dX0_isLetter_148 ?_
        refine lv_iload hx hb dX0_isLetter_149 (lv_at hl 5 rfl) ?_
        refine lv_isub hx hb dX0_isLetter_151 ?_
        obtain ⟨hg, hf⟩ := sm_gd_e hf
        refine va_iald hx hb hK hP 17 0 rfl rfl (sm_in hg) dX0_isLetter_152 ?_
        obtain ⟨hg, hf⟩ := sm_gd_e hf
        refine va_iast (i := x_39) (x := S_40.2.1 14 (((S_40.1 15) - 1) - x_39).toNatClampNeg) hx hb hK hP hD hS 17 0 rfl rfl (sm_in hg) dX0_isLetter_153 (fun H locs hP hD hS => ?_)
        obtain ⟨S_51, eS_51, hf⟩ := sm_lt_e hf
        have hP : PP g (WX g ad S_51) H := by rw [eS_51]; exact pxr14 hP
        have hD : va_D (AX ad) (WX g ad S_51) := by rw [eS_51]; exact dxr14 hD
        refine lv_aload_n hx hb dX0_isLetter_154 rfl (lv_at hl 1 rfl) ?_
        refine va_get (D := (g.1, g.2.1)) (ci := 0) (v := .ref (ad 17)) (C := RX0) (T := TX0) (N := 20) hx hb hts in_X0 hown hK hP 0 rfl rfl 14 (by decide) (hts _ q286) (fun _ h9 => h9) rfl dX0_isLetter_155 ?_
        refine lv_aload_n hx hb dX0_isLetter_158 rfl (lv_at hl 1 rfl) ?_
        refine va_get (D := (g.1, g.2.1)) (ci := 0) (v := .int (S_51.1 15)) (C := RX0) (T := TX0) (N := 20) hx hb hts in_X0 hown hK hP 0 rfl rfl 15 (by decide) (hts _ q287) (fun _ h9 => h9) rfl dX0_isLetter_159 ?_
        refine lv_iconst (v := 1) hx hb dX0_isLetter_162 (by decide) ?_
        refine lv_isub hx hb dX0_isLetter_163 ?_
        refine lv_iload hx hb dX0_isLetter_164 (lv_at hl 5 rfl) ?_
        refine lv_isub hx hb dX0_isLetter_166 ?_
        refine lv_iload hx hb dX0_isLetter_167 (lv_at hl 0 rfl) ?_
        obtain ⟨hg, hf⟩ := sm_gd_e hf
        refine va_iast (i := ((S_51.1 15) - 1) - x_39) (x := x_50) hx hb hK hP hD hS 17 0 rfl rfl (sm_in hg) dX0_isLetter_169 (fun H locs hP hD hS => ?_)
        obtain ⟨S_52, eS_52, hf⟩ := sm_lt_e hf
        have hP : PP g (WX g ad S_52) H := by rw [eS_52]; exact pxr14 hP
        have hD : va_D (AX ad) (WX g ad S_52) := by rw [eS_52]; exact dxr14 hD
        refine lv_iinc (v := x_39 + 1) (lv' := [(4, .int (x_39 + 1)), (5, .int x_50), (0, .ref (ad 0)), (1, .int a1), (2, .int x_17), (3, .int x_38)]) hx hb dX0_isLetter_170 hl (k := 5) rfl rfl (by decide) rfl (fun ls hl => ?_)
        refine lv_goto (tgt := 113) hx hb dX0_isLetter_173 (by decide) ?_
        cases hf
        exact ih_41 _ _ _ _ _ _ _ hc_45 hP hD hS (lv_sub hl [2, 3, 4, 5, 0] rfl) kx_42
  obtain ⟨x_54, S_55, ho, hf⟩ := sm_b2_e hf
  refine L_46 FU 0 S_18 x_54 S_55 H locs ls ho hP hD hS (lv_sub hl [1, 2, 3, 4, 0] rfl) ?_
  intro H locs ls hP hD hS hl
  refine lv_iload_n hx hb dX0_isLetter_176 rfl (lv_at hl 3 rfl) ?_
  obtain ⟨hg, hf⟩ := sm_gd_e hf
  have hf := Option.some.inj hf
  rw [← hQ]
  have hf := Prod.mk.inj hf
  exact W.zret (v := x_38) hx hb hr (sm_bz_nar hg) (fun t ht hW => ⟨⟨_, (), rfl, hf.2, by rw [ht, ← hf.1]; exact hP, by rw [← hf.1]; exact hD⟩, hS.F ht⟩) hS.2.2 dX0_isLetter_177
abbrev rX0_makes : Room := { frames := 1, cells := 0, slots := 0, locals := 22 }
set_option maxHeartbeats 4000000 in
theorem wX0_makes (l : Launch) (g : GG) (ad : Nat → Nat) (S : XS) (a2 : Int32) (rf : Int32) (hf : fX0_makes S a2 = some rf) : Met l yX0_makes (ws_ yX0_makes cX0_makes 7 (some .boolean)) rX0_makes (va_Pc [.ref (ad 0), .ref (ad 18), .int a2] (fun Ux => PP g (WX g ad S) Ux.heap ∧ EV g Ux)) (vp_Si (fun y => y = rf)) 0 0 (fun _ => False) := by
  refine sm_st (by decide) ?_
  intro p e s m args below meth c hx hb hr hlocks hml hown hnm hts hv
  obtain ⟨hargs, hP, hE⟩ := hv
  obtain ⟨hK, hN⟩ := id hE
  have hown : s.vm.findClass RX0 = some m.cls := hown
  refine sm_en _ (Nat.le_of_ble_eq_true rfl) hargs (fun ls hl => ?_)
  have hl : lv_has ls 7 [(0, .ref (ad 0)), (1, .ref (ad 18)), (2, .int a2)] := hl
  generalize hQ : MQ below _ args s _ _ _ = Q
  unfold fX0_makes at hf
  refine lv_aload_n hx hb dX0_makes_0 rfl (lv_at hl 0 rfl) ?_
  refine va_get (D := (g.1, g.2.1)) (ci := 0) (v := .int (S.1 15)) (C := RX0) (T := TX0) (N := 20) hx hb hts in_X0 hown hK hP 0 rfl rfl 15 (by decide) (hts _ q287) (fun _ h9 => h9) rfl dX0_makes_1 ?_
  refine lv_aload_n hx hb dX0_makes_4 rfl (lv_at hl 0 rfl) ?_
  refine va_get (D := (g.1, g.2.1)) (ci := 0) (v := .ref (ad 29)) (C := RX0) (T := TX0) (N := 20) hx hb hts in_X0 hown hK hP 0 rfl rfl 1 (by decide) (hts _ q271) (fun _ h9 => h9) rfl dX0_makes_5 ?_
  refine va_getN (D := (g.1, g.2.1)) (ci := 2) (v := .int ((S.2.2.1 0).1 6)) (C := RX2) (T := TX2) (N := 7) hx hb hts in_X2 hown hK hP 29 rfl rfl 6 (by decide) (va_Nw.use rfl (hN _ q174 rfl)) (fun _ h9 => h9) rfl dX0_makes_8 ?_
  obtain ⟨x_1, hf, hf0⟩ := sm_b1_e hf
  suffices hj_2 : ∀ (ls : Array Slot), lv_has ls 7 [(0, .ref (ad 0)), (1, .ref (ad 18)), (2, .int a2)] → W p l e rX0_makes s m args below meth c s.heap [] 0 0 Q (F0 m 19 ls [.int x_1]) from by
    refine lv_icmp_ne (tgt := 18) hx hb dX0_makes_11 (by decide) (fun c_3 => ?_) (fun c_3 => ?_)
    · have hf := (if_neg c_3).symm.trans hf
      refine lv_iconst (v := 0) hx hb dX0_makes_18 (by decide) ?_
      cases hf
      exact hj_2 _ (lv_sub hl [0, 1, 2] rfl)
    · have hf := (if_pos c_3).symm.trans hf
      refine lv_iconst (v := 1) hx hb dX0_makes_14 (by decide) ?_
      refine lv_goto (tgt := 19) hx hb dX0_makes_15 (by decide) ?_
      cases hf
      exact hj_2 _ (lv_sub hl [0, 1, 2] rfl)
  intro ls hl
  have hf := hf0
  refine lv_istore_n (lv' := [(3, .int x_1), (0, .ref (ad 0)), (1, .ref (ad 18)), (2, .int a2)]) hx hb dX0_makes_19 rfl hl (by decide) rfl (fun ls hl => ?_)
  refine lv_iconst (v := 0) hx hb dX0_makes_20 (by decide) ?_
  refine lv_istore (lv' := [(4, .int 0), (3, .int x_1), (0, .ref (ad 0)), (1, .ref (ad 18)), (2, .int a2)]) hx hb dX0_makes_21 hl (by decide) rfl (fun ls hl => ?_)
  have L_11 : ∀ (n : Nat) (x_4 : Int32) (x_5 : Int32) (o_12 : Int32) (o_13 : Int32) (ls : Array Slot), sm_lp (fun q => fX0_makes_23 S a2 q.1 q.2) n (x_4, x_5) = some (o_12, o_13) → lv_has ls 7 [(0, .ref (ad 0)), (1, .ref (ad 18)), (2, .int a2), (4, .int x_4), (3, .int x_5)] → (∀ (ls : Array Slot), lv_has ls 7 [(0, .ref (ad 0)), (1, .ref (ad 18)), (2, .int a2), (4, .int o_12), (3, .int o_13)] → W p l e rX0_makes s m args below meth c s.heap [] 0 0 Q (F0 m 102 ls [])) → W p l e rX0_makes s m args below meth c s.heap [] 0 0 Q (F0 m 23 ls []) := by
    intro n
    induction n with
    | zero =>
      intro _ _ _ _ _ hf
      cases hf
    | succ n ih_6 =>
      intro x_4 x_5 o_12 o_13 ls hf hl kx_7
      obtain ⟨q, hf, hc_10⟩ := sm_bnd hf
      have hf : fX0_makes_23 S a2 x_4 x_5 = some q := hf
      unfold fX0_makes_23 at hf
      refine lv_iload hx hb dX0_makes_23 (lv_at hl 3 rfl) ?_
      refine lv_aload_n hx hb dX0_makes_25 rfl (lv_at hl 0 rfl) ?_
      refine va_get (D := (g.1, g.2.1)) (ci := 0) (v := .int (S.1 15)) (C := RX0) (T := TX0) (N := 20) hx hb hts in_X0 hown hK hP 0 rfl rfl 15 (by decide) (hts _ q287) (fun _ h9 => h9) rfl dX0_makes_26 ?_
      refine lv_icmp_ge (tgt := 102) hx hb dX0_makes_29 (by decide) (fun c_14 => ?_) (fun c_14 => ?_)
      · have hf := (if_pos c_14).symm.trans hf
        cases hf
        have hc_10 : some (x_4, x_5) = some (o_12, o_13) := hc_10
        cases hc_10
        exact kx_7 _ (lv_sub hl [0, 1, 2, 3, 4] rfl)
      · have hf := (if_neg c_14).symm.trans hf
        refine lv_iload_n hx hb dX0_makes_32 rfl (lv_at hl 4 rfl) ?_
        refine lv_if_eq (tgt := 102) hx hb dX0_makes_33 (by decide) (fun c_15 => ?_) (fun c_15 => ?_)
        · have hf := (if_pos c_15).symm.trans hf
          cases hf
          have hc_10 : some (x_4, x_5) = some (o_12, o_13) := hc_10
          cases hc_10
          exact kx_7 _ (lv_sub hl [0, 1, 2, 3, 4] rfl)
        · have hf := (if_neg c_15).symm.trans hf
          refine lv_aload_n hx hb dX0_makes_36 rfl (lv_at hl 0 rfl) ?_
          refine va_get (D := (g.1, g.2.1)) (ci := 0) (v := .ref (ad 17)) (C := RX0) (T := TX0) (N := 20) hx hb hts in_X0 hown hK hP 0 rfl rfl 14 (by decide) (hts _ q286) (fun _ h9 => h9) rfl dX0_makes_37 ?_
          refine lv_iload hx hb dX0_makes_40 (lv_at hl 3 rfl) ?_
          obtain ⟨hg, hf⟩ := sm_gd_e hf
          refine va_iald hx hb hK hP 17 0 rfl rfl (sm_in hg) dX0_makes_42 ?_
          refine lv_topi (fun x_16 ex_16 => ?_)
          have hf := sm_lt_v hf ex_16
          refine lv_istore (lv' := [(5, .int x_16), (0, .ref (ad 0)), (1, .ref (ad 18)), (2, .int a2), (4, .int x_4), (3, .int x_5)]) hx hb dX0_makes_43 hl (by decide) rfl (fun ls hl => ?_)
          refine lv_iconst (v := 0) hx hb dX0_makes_45 (by decide) ?_
          refine lv_istore (lv' := [(6, .int 0), (5, .int x_16), (0, .ref (ad 0)), (1, .ref (ad 18)), (2, .int a2), (4, .int x_4), (3, .int x_5)]) hx hb dX0_makes_46 hl (by decide) rfl (fun ls hl => ?_)
          have L_24 : ∀ (n : Nat) (x_17 : Int32) (x_18 : Int32) (o_25 : Int32) (o_26 : Int32) (ls : Array Slot), sm_lp (fun q => fX0_makes_48 S a2 q.1 q.2) n (x_17, x_18) = some (o_25, o_26) → lv_has ls 7 [(0, .ref (ad 0)), (1, .ref (ad 18)), (2, .int a2), (4, .int x_4), (3, .int x_5), (6, .int x_17), (5, .int x_18)] → (∀ (ls : Array Slot), lv_has ls 7 [(0, .ref (ad 0)), (1, .ref (ad 18)), (2, .int a2), (4, .int x_4), (3, .int x_5), (6, .int o_25), (5, .int o_26)] → W p l e rX0_makes s m args below meth c s.heap [] 0 0 Q (F0 m 75 ls [])) → W p l e rX0_makes s m args below meth c s.heap [] 0 0 Q (F0 m 48 ls []) := by
            intro n
            induction n with
            | zero =>
              intro _ _ _ _ _ hf
              cases hf
            | succ n ih_19 =>
              intro x_17 x_18 o_25 o_26 ls hf hl kx_20
              obtain ⟨q, hf, hc_23⟩ := sm_bnd hf
              have hf : fX0_makes_48 S a2 x_17 x_18 = some q := hf
              unfold fX0_makes_48 at hf
              refine lv_iload hx hb dX0_makes_48 (lv_at hl 5 rfl) ?_
              refine lv_iload_n hx hb dX0_makes_50 rfl (lv_at hl 2 rfl) ?_
              refine lv_icmp_ge (tgt := 75) hx hb dX0_makes_51 (by decide) (fun c_27 => ?_) (fun c_27 => ?_)
              · have hf := (if_pos c_27).symm.trans hf
                cases hf
                have hc_23 : some (x_17, x_18) = some (o_25, o_26) := hc_23
                cases hc_23
                exact kx_20 _ (lv_sub hl [0, 1, 2, 3, 4, 5, 6] rfl)
              · have hf := (if_neg c_27).symm.trans hf
                refine lv_aload_n hx hb dX0_makes_54 rfl (lv_at hl 0 rfl) ?_
                refine va_get (D := (g.1, g.2.1)) (ci := 0) (v := .ref (ad 1)) (C := RX0) (T := TX0) (N := 20) hx hb hts in_X0 hown hK hP 0 rfl rfl 0 (by decide) (hts _ q269) (fun _ h9 => h9) rfl dX0_makes_55 ?_
                refine lv_aload_n hx hb dX0_makes_58 rfl (lv_at hl 1 rfl) ?_
                refine lv_iload hx hb dX0_makes_59 (lv_at hl 5 rfl) ?_
                obtain ⟨hg, hf⟩ := sm_gd_e hf
                refine va_iald hx hb hK hP 18 0 rfl rfl (sm_in hg) dX0_makes_61 ?_
                refine lv_iload hx hb dX0_makes_62 (lv_at hl 6 rfl) ?_
                obtain ⟨r_28, h_29, hf⟩ := sm_b1_e hf
                refine vp_callSi (W.runV (As := [.int (S.2.1 16 x_17.toNatClampNeg), .int x_18]) (rest := []) ⟨hx, hb, hml, hown, hts⟩ (wX1_copied l g (bd ad) S.2.2.2.2.1 (S.2.1 16 x_17.toNatClampNeg) x_18 r_28 h_29) (cwV 2 hts (lw_V q741 q742 q743 q61 q744) rfl rfl rfl (by decide +kernel) ⟨Nat.le_of_ble_eq_true rfl, Nat.le_of_ble_eq_true rfl⟩) (sm_pv hE (sm_pB hP) (va_recv hK (sm_pB hP) (ci := 1) (q0 := 0) rfl rfl)) rfl rfl hl.1 rfl (lv_room (Nat.le_of_ble_eq_true rfl)) dX0_makes_64 ⟨Nat.le_of_ble_eq_true rfl, Nat.le_of_ble_eq_true rfl⟩) (fun r_31 er_30 => ?_)
                have er_30 := er_30.symm
                subst er_30
                refine lv_istore (lv' := [(5, .int r_28), (0, .ref (ad 0)), (1, .ref (ad 18)), (2, .int a2), (4, .int x_4), (3, .int x_5), (6, .int x_17)]) hx hb dX0_makes_67 hl (by decide) rfl (fun ls hl => ?_)
                refine lv_iinc (v := x_17 + 1) (lv' := [(6, .int (x_17 + 1)), (5, .int r_28), (0, .ref (ad 0)), (1, .ref (ad 18)), (2, .int a2), (4, .int x_4), (3, .int x_5)]) hx hb dX0_makes_69 hl (k := 6) rfl rfl (by decide) rfl (fun ls hl => ?_)
                refine lv_goto (tgt := 48) hx hb dX0_makes_72 (by decide) ?_
                cases hf
                exact ih_19 _ _ _ _ _ hc_23 (lv_sub hl [2, 3, 4, 5, 6, 0, 1] rfl) kx_20
          obtain ⟨x_33, x_34, ho, hf⟩ := sm_b2_e hf
          refine L_24 FU 0 x_16 x_33 x_34 ls ho (lv_sub hl [2, 3, 4, 5, 6, 0, 1] rfl) ?_
          intro ls hl
          refine lv_iload hx hb dX0_makes_75 (lv_at hl 6 rfl) ?_
          refine lv_aload_n hx hb dX0_makes_77 rfl (lv_at hl 0 rfl) ?_
          refine va_get (D := (g.1, g.2.1)) (ci := 0) (v := .ref (ad 29)) (C := RX0) (T := TX0) (N := 20) hx hb hts in_X0 hown hK hP 0 rfl rfl 1 (by decide) (hts _ q271) (fun _ h9 => h9) rfl dX0_makes_78 ?_
          refine va_getN (D := (g.1, g.2.1)) (ci := 2) (v := .ref (ad 32)) (C := RX2) (T := TX2) (N := 7) hx hb hts in_X2 hown hK hP 29 rfl rfl 5 (by decide) (va_Nw.use rfl (hN _ q172 rfl)) (fun _ h9 => h9) rfl dX0_makes_81 ?_
          refine lv_iload hx hb dX0_makes_84 (lv_at hl 3 rfl) ?_
          obtain ⟨hg, hf⟩ := sm_gd_e hf
          refine va_iald hx hb hK hP 32 0 rfl rfl (sm_in hg) dX0_makes_86 ?_
          refine lv_icmp_ne (tgt := 94) hx hb dX0_makes_87 (by decide) (fun c_35 => ?_) (fun c_35 => ?_)
          · have hf := (if_neg c_35).symm.trans hf
            refine lv_iconst (v := 0) hx hb dX0_makes_94 (by decide) ?_
            refine lv_istore_n (lv' := [(3, .int 0), (0, .ref (ad 0)), (1, .ref (ad 18)), (2, .int a2), (4, .int x_4), (6, .int x_33), (5, .int x_34)]) hx hb dX0_makes_95 rfl hl (by decide) rfl (fun ls hl => ?_)
            refine lv_iinc (v := x_4 + 1) (lv' := [(4, .int (x_4 + 1)), (3, .int 0), (0, .ref (ad 0)), (1, .ref (ad 18)), (2, .int a2), (6, .int x_33), (5, .int x_34)]) hx hb dX0_makes_96 hl (k := 4) rfl rfl (by decide) rfl (fun ls hl => ?_)
            refine lv_goto (tgt := 23) hx hb dX0_makes_99 (by decide) ?_
            cases hf
            exact ih_6 _ _ _ _ _ hc_10 (lv_sub hl [2, 3, 4, 0, 1] rfl) kx_7
          · have hf := (if_pos c_35).symm.trans hf
            refine lv_iconst (v := 1) hx hb dX0_makes_90 (by decide) ?_
            refine lv_goto (tgt := 95) hx hb dX0_makes_91 (by decide) ?_
            refine lv_istore_n (lv' := [(3, .int 1), (0, .ref (ad 0)), (1, .ref (ad 18)), (2, .int a2), (4, .int x_4), (6, .int x_33), (5, .int x_34)]) hx hb dX0_makes_95 rfl hl (by decide) rfl (fun ls hl => ?_)
            refine lv_iinc (v := x_4 + 1) (lv' := [(4, .int (x_4 + 1)), (3, .int 1), (0, .ref (ad 0)), (1, .ref (ad 18)), (2, .int a2), (6, .int x_33), (5, .int x_34)]) hx hb dX0_makes_96 hl (k := 4) rfl rfl (by decide) rfl (fun ls hl => ?_)
            refine lv_goto (tgt := 23) hx hb dX0_makes_99 (by decide) ?_
            cases hf
            exact ih_6 _ _ _ _ _ hc_10 (lv_sub hl [2, 3, 4, 0, 1] rfl) kx_7
  obtain ⟨x_37, x_38, ho, hf⟩ := sm_b2_e hf
  refine L_11 FU 0 x_1 x_37 x_38 ls ho (lv_sub hl [2, 3, 4, 0, 1] rfl) ?_
  intro ls hl
  refine lv_iload_n hx hb dX0_makes_102 rfl (lv_at hl 4 rfl) ?_
  obtain ⟨hg, hf⟩ := sm_gd_e hf
  have hf := Option.some.inj hf
  rw [← hQ]
  exact W.zret (v := x_38) hx hb hr (sm_bz_nar hg) (fun t ht hW => ⟨_, rfl, hf, ht⟩) (fun _ h => by cases h) dX0_makes_103
abbrev rX0_whose : Room := { frames := 2, cells := 0, slots := 0, locals := 48 }
set_option maxHeartbeats 4000000 in
theorem wX0_whose (l : Launch) (g : GG) (ad : Nat → Nat) (S : XS) (a1 : Int32) (Sf : XS) (rf : Int32) (hf : fX0_whose S a1 = some (Sf, rf)) : Met l yX0_whose (ws_ yX0_whose cX0_whose 4 (some .int)) rX0_whose (va_Pc [.ref (ad 0), .int a1] (fun Ux => PP g (WX g ad S) Ux.heap ∧ EV g Ux ∧ va_D (AX ad) (WX g ad S))) (va_Qi (fun y (_ : Unit) => y = rf) (fun _ t => PP g (WX g ad Sf) t.heap ∧ va_D (AX ad) (WX g ad Sf)) (AX ad)) 0 0 (AX ad) := by
  refine sm_st (by decide) ?_
  intro p e s m args below meth c hx hb hr hlocks hml hown hnm hts hv
  obtain ⟨hargs, hP, hE, hD⟩ := hv
  obtain ⟨hK, hN⟩ := id hE
  have hS : va_S (AX ad) s.heap s.heap [] := va_S.rf
  have hown : s.vm.findClass RX0 = some m.cls := hown
  refine sm_en _ (Nat.le_of_ble_eq_true rfl) hargs (fun ls hl => ?_)
  have hl : lv_has ls 4 [(0, .ref (ad 0)), (1, .int a1)] := hl
  generalize hQ : MQ below _ args s _ _ _ = Q
  unfold fX0_whose at hf
  refine lv_aload_n hx hb dX0_whose_0 rfl (lv_at hl 0 rfl) ?_
  refine lv_iload_n hx hb dX0_whose_1 rfl (lv_at hl 1 rfl) ?_
  obtain ⟨S_1, r_3, h_2, hf⟩ := sm_b2_e hf
  refine va_calli (va_runV (As := [.int a1]) (rest := []) ⟨hx, hb, hml, hown, hts⟩ (wX0_isLetter l g ad S a1 S_1 r_3 h_2) (cwV 1 hts (lw_V q781 q783 qs19 q60 q784) rfl rfl rfl (by decide +kernel) ⟨Nat.le_of_ble_eq_true rfl, Nat.le_of_ble_eq_true rfl⟩) (sm_pe hE hP hD (va_recv hK hP (ci := 0) (q0 := 0) rfl rfl)) rfl rfl hl.1 rfl (lv_room (Nat.le_of_ble_eq_true rfl)) dX0_whose_2 ⟨Nat.le_of_ble_eq_true rfl, Nat.le_of_ble_eq_true rfl⟩) hS (fun _ _ h => h) (fun _ h => h) (fun r_5 u t H locs ht hvm er_4 hB hz hk hS => ?_)
  have er_4 := er_4.symm
  subst er_4
  obtain ⟨hP, hD⟩ := hB
  rw [ht] at hP
  refine lv_if_ne (tgt := 10) hx hb dX0_whose_5 (by decide) (fun c_6 => ?_) (fun c_6 => ?_)
  · have hf := (if_neg c_6).symm.trans hf
    refine lv_iconst (v := 0) hx hb dX0_whose_10 (by decide) ?_
    refine lv_istore_n (lv' := [(2, .int 0), (0, .ref (ad 0)), (1, .int a1)]) hx hb dX0_whose_11 rfl hl (by decide) rfl (fun ls hl => ?_)
    refine lv_iconst (v := 0) hx hb dX0_whose_12 (by decide) ?_
    refine lv_istore_n (lv' := [(3, .int 0), (2, .int 0), (0, .ref (ad 0)), (1, .int a1)]) hx hb dX0_whose_13 rfl hl (by decide) rfl (fun ls hl => ?_)
    have L_15 : ∀ (n : Nat) (x_7 : Int32) (x_8 : Int32) (S_9 : XS) (o_16 : Int32) (o_17 : Int32) (o_18 : XS) (H : Heap) (locs : List Loc) (ls : Array Slot), sm_lp (fun q => fX0_whose_14 q.1 q.2.1 q.2.2) n (x_7, x_8, S_9) = some (o_16, o_17, o_18) → PP g (WX g ad S_9) H → va_D (AX ad) (WX g ad S_9) → va_S (AX ad) s.heap H locs → lv_has ls 4 [(0, .ref (ad 0)), (1, .int a1), (3, .int x_7), (2, .int x_8)] → (∀ (H : Heap) (locs : List Loc) (ls : Array Slot), PP g (WX g ad o_18) H → va_D (AX ad) (WX g ad o_18) → va_S (AX ad) s.heap H locs → lv_has ls 4 [(0, .ref (ad 0)), (1, .int a1), (3, .int o_16), (2, .int o_17)] → W p l e rX0_whose s m args below meth c H locs 0 0 Q (F0 m 60 ls [])) → W p l e rX0_whose s m args below meth c H locs 0 0 Q (F0 m 14 ls []) := by
      intro n
      induction n with
      | zero =>
        intro _ _ _ _ _ _ _ _ _ hf
        cases hf
      | succ n ih_10 =>
        intro x_7 x_8 S_9 o_16 o_17 o_18 H locs ls hf hP hD hS hl kx_11
        obtain ⟨q, hf, hc_14⟩ := sm_bnd hf
        have hf : fX0_whose_14 x_7 x_8 S_9 = some q := hf
        unfold fX0_whose_14 at hf
        refine lv_iload_n hx hb dX0_whose_14 rfl (lv_at hl 2 rfl) ?_
        refine lv_aload_n hx hb dX0_whose_15 rfl (lv_at hl 0 rfl) ?_
        refine va_get (D := (g.1, g.2.1)) (ci := 0) (v := .ref (ad 1)) (C := RX0) (T := TX0) (N := 20) hx hb hts in_X0 hown hK hP 0 rfl rfl 0 (by decide) (hts _ q269) (fun _ h9 => h9) rfl dX0_whose_16 ?_
        refine va_getN (D := (g.1, g.2.1)) (ci := 1) (v := .int (S_9.2.2.2.2.1.1 7)) (C := RX1) (T := TX1) (N := 9) hx hb hts in_X1 hown hK hP 1 rfl rfl 7 (by decide) (va_Nw.use rfl (hN _ q124 rfl)) (fun _ h9 => h9) rfl dX0_whose_19 ?_
        refine lv_icmp_ge (tgt := 60) hx hb dX0_whose_22 (by decide) (fun c_19 => ?_) (fun c_19 => ?_)
        · have hf := (if_pos c_19).symm.trans hf
          cases hf
          have hc_14 : some (x_7, x_8, S_9) = some (o_16, o_17, o_18) := hc_14
          cases hc_14
          exact kx_11 _ _ _ hP hD hS (lv_sub hl [0, 1, 2, 3] rfl)
        · have hf := (if_neg c_19).symm.trans hf
          refine lv_aload_n hx hb dX0_whose_25 rfl (lv_at hl 0 rfl) ?_
          refine va_get (D := (g.1, g.2.1)) (ci := 0) (v := .ref (ad 18)) (C := RX0) (T := TX0) (N := 20) hx hb hts in_X0 hown hK hP 0 rfl rfl 16 (by decide) (hts _ q288) (fun _ h9 => h9) rfl dX0_whose_26 ?_
          refine lv_iconst (v := 0) hx hb dX0_whose_29 (by decide) ?_
          refine lv_iload_n hx hb dX0_whose_30 rfl (lv_at hl 2 rfl) ?_
          refine va_iast (i := 0) (x := x_7) hx hb hK hP hD hS 18 0 rfl rfl (sm_in rfl) dX0_whose_31 (fun H locs hP hD hS => ?_)
          obtain ⟨S_20, eS_20, hf⟩ := sm_lt_e hf
          have hP : PP g (WX g ad S_20) H := by rw [eS_20]; exact pxr16 hP
          have hD : va_D (AX ad) (WX g ad S_20) := by rw [eS_20]; exact dxr16 hD
          refine lv_iload_n hx hb dX0_whose_32 rfl (lv_at hl 3 rfl) ?_
          refine lv_aload_n hx hb dX0_whose_33 rfl (lv_at hl 0 rfl) ?_
          refine lv_aload_n hx hb dX0_whose_34 rfl (lv_at hl 0 rfl) ?_
          refine va_get (D := (g.1, g.2.1)) (ci := 0) (v := .ref (ad 18)) (C := RX0) (T := TX0) (N := 20) hx hb hts in_X0 hown hK hP 0 rfl rfl 16 (by decide) (hts _ q288) (fun _ h9 => h9) rfl dX0_whose_35 ?_
          refine lv_iconst (v := 1) hx hb dX0_whose_38 (by decide) ?_
          obtain ⟨r_21, h_22, hf⟩ := sm_b1_e hf
          refine vp_callSi (W.runV (As := [.ref (ad 18), .int 1]) (rest := [.int x_8]) ⟨hx, hb, hml, hown, hts⟩ (wX0_makes l g ad S_20 1 r_21 h_22) (cwV 2 hts (lw_V q785 q787 qs20 q60 q788) rfl rfl rfl (by decide +kernel) ⟨Nat.le_of_ble_eq_true rfl, Nat.le_of_ble_eq_true rfl⟩) (sm_pv hE hP (va_recv hK hP (ci := 0) (q0 := 0) rfl rfl)) rfl rfl hl.1 rfl (lv_room (Nat.le_of_ble_eq_true rfl)) dX0_whose_39 ⟨Nat.le_of_ble_eq_true rfl, Nat.le_of_ble_eq_true rfl⟩) (fun r_24 er_23 => ?_)
          have er_23 := er_23.symm
          subst er_23
          refine lv_if_eq (tgt := 51) hx hb dX0_whose_42 (by decide) (fun c_25 => ?_) (fun c_25 => ?_)
          · have hf := (if_pos c_25).symm.trans hf
            refine lv_iconst (v := 0) hx hb dX0_whose_51 (by decide) ?_
            refine lv_ior hx hb dX0_whose_52 ?_
            refine lv_istore_n (lv' := [(2, .int (x_8 ||| 0)), (0, .ref (ad 0)), (1, .int a1), (3, .int x_7)]) hx hb dX0_whose_53 rfl hl (by decide) rfl (fun ls hl => ?_)
            refine lv_iinc (v := x_7 + 1) (lv' := [(3, .int (x_7 + 1)), (2, .int (x_8 ||| 0)), (0, .ref (ad 0)), (1, .int a1)]) hx hb dX0_whose_54 hl (k := 3) rfl rfl (by decide) rfl (fun ls hl => ?_)
            refine lv_goto (tgt := 14) hx hb dX0_whose_57 (by decide) ?_
            cases hf
            exact ih_10 _ _ _ _ _ _ _ _ _ hc_14 hP hD hS (lv_sub hl [2, 3, 0, 1] rfl) kx_11
          · have hf := (if_neg c_25).symm.trans hf
            refine lv_iconst (v := 1) hx hb dX0_whose_45 (by decide) ?_
            refine lv_iload_n hx hb dX0_whose_46 rfl (lv_at hl 2 rfl) ?_
            refine lv_ishl hx hb dX0_whose_47 ?_
            refine lv_goto (tgt := 52) hx hb dX0_whose_48 (by decide) ?_
            refine lv_ior hx hb dX0_whose_52 ?_
            refine lv_topi (fun x_26 ex_26 => ?_)
            have hf := sm_lt_v hf ex_26
            refine lv_istore_n (lv' := [(2, .int x_26), (0, .ref (ad 0)), (1, .int a1), (3, .int x_7)]) hx hb dX0_whose_53 rfl hl (by decide) rfl (fun ls hl => ?_)
            refine lv_iinc (v := x_7 + 1) (lv' := [(3, .int (x_7 + 1)), (2, .int x_26), (0, .ref (ad 0)), (1, .int a1)]) hx hb dX0_whose_54 hl (k := 3) rfl rfl (by decide) rfl (fun ls hl => ?_)
            refine lv_goto (tgt := 14) hx hb dX0_whose_57 (by decide) ?_
            cases hf
            exact ih_10 _ _ _ _ _ _ _ _ _ hc_14 hP hD hS (lv_sub hl [2, 3, 0, 1] rfl) kx_11
    obtain ⟨x_28, x_29, S_30, ho, hf⟩ := sm_b3_e hf
    refine L_15 FU 0 0 S_1 x_28 x_29 S_30 H locs ls ho hP hD hS (lv_sub hl [2, 3, 0, 1] rfl) ?_
    intro H locs ls hP hD hS hl
    refine lv_iload_n hx hb dX0_whose_60 rfl (lv_at hl 3 rfl) ?_
    have hf := Option.some.inj hf
    rw [← hQ]
    have hf := Prod.mk.inj hf
    exact W.iret (v := x_29) hx hb hr (fun t ht hW => ⟨⟨_, (), rfl, hf.2, by rw [ht, ← hf.1]; exact hP, by rw [← hf.1]; exact hD⟩, hS.F ht⟩) hS.2.2 dX0_whose_61
  · have hf := (if_pos c_6).symm.trans hf
    refine lv_iconst (v := (-1)) hx hb dX0_whose_8 (by decide) ?_
    have hf := Option.some.inj hf
    rw [← hQ]
    have hf := Prod.mk.inj hf
    exact W.iret (v := (-1)) hx hb hr (fun t ht hW => ⟨⟨_, (), rfl, hf.2, by rw [ht, ← hf.1]; exact hP, by rw [← hf.1]; exact hD⟩, hS.F ht⟩) hS.2.2 dX0_whose_9
abbrev rX0_keep : Room := { frames := 2, cells := 0, slots := 0, locals := 81 }
set_option maxHeartbeats 4000000 in
theorem wX0_keep (l : Launch) (g : GG) (ad : Nat → Nat) (S : XS) (a1 : Int32) (Sf : XS) (rf : Int32) (hf : fX0_keep S a1 = some (Sf, rf)) : Met l yX0_keep (ws_ yX0_keep cX0_keep 2 (some .int)) rX0_keep (va_Pc [.ref (ad 0), .int a1] (fun Ux => PP g (WX g ad S) Ux.heap ∧ EV g Ux ∧ va_D (AX ad) (WX g ad S))) (va_Qi (fun y (_ : Unit) => y = rf) (fun _ t => PP g (WX g ad Sf) t.heap ∧ va_D (AX ad) (WX g ad Sf)) (AX ad)) 0 0 (AX ad) := by
  refine sm_st (by decide) ?_
  intro p e s m args below meth c hx hb hr hlocks hml hown hnm hts hv
  obtain ⟨hargs, hP, hE, hD⟩ := hv
  obtain ⟨hK, hN⟩ := id hE
  have hS : va_S (AX ad) s.heap s.heap [] := va_S.rf
  have hown : s.vm.findClass RX0 = some m.cls := hown
  refine sm_en _ (Nat.le_of_ble_eq_true rfl) hargs (fun ls hl => ?_)
  have hl : lv_has ls 2 [(0, .ref (ad 0)), (1, .int a1)] := hl
  generalize hQ : MQ below _ args s _ _ _ = Q
  unfold fX0_keep at hf
  refine lv_iload_n hx hb dX0_keep_0 rfl (lv_at hl 1 rfl) ?_
  refine lv_iconst (v := 0) hx hb dX0_keep_1 (by decide) ?_
  refine lv_iconst (v := 1) hx hb dX0_keep_2 (by decide) ?_
  refine vp_callSi (W.runS (As := [.int a1, .int 0, .int 1]) (rest := []) ⟨hx, hb, hml, hown, hts⟩ (wX0_in l a1 0 1 (fX0_in a1 0 1) rfl) (va_cwS 3 hts (lw_S q343 q344 q60 q345) rfl rfl rfl (by decide +kernel) ⟨Nat.le_of_ble_eq_true rfl, Nat.le_of_ble_eq_true rfl⟩) (sm_ps) rfl rfl hl.1 rfl (lv_room (Nat.le_of_ble_eq_true rfl)) dX0_keep_3 ⟨Nat.le_of_ble_eq_true rfl, Nat.le_of_ble_eq_true rfl⟩) (fun r_2 er_1 => ?_)
  have er_1 := er_1.symm
  subst er_1
  refine lv_if_ne (tgt := 11) hx hb dX0_keep_6 (by decide) (fun c_3 => ?_) (fun c_3 => ?_)
  · have hf := (if_neg c_3).symm.trans hf
    refine lv_aload_n hx hb dX0_keep_11 rfl (lv_at hl 0 rfl) ?_
    refine va_get (D := (g.1, g.2.1)) (ci := 0) (v := .ref (ad 21)) (C := RX0) (T := TX0) (N := 20) hx hb hts in_X0 hown hK hP 0 rfl rfl 5 (by decide) (hts _ q275) (fun _ h9 => h9) rfl dX0_keep_12 ?_
    refine lv_iload_n hx hb dX0_keep_15 rfl (lv_at hl 1 rfl) ?_
    obtain ⟨hg, hf⟩ := sm_gd_e hf
    have hi_4 := sm_lt_in (sm_in hg)
    refine va_aldq hx hb hK hP 21 4 rfl rfl (sm_in hg) dX0_keep_16 ?_
    refine lv_aload_n hx hb dX0_keep_17 rfl (lv_at hl 0 rfl) ?_
    refine va_get (D := (g.1, g.2.1)) (ci := 0) (v := .ref (ad 29)) (C := RX0) (T := TX0) (N := 20) hx hb hts in_X0 hown hK hP 0 rfl rfl 1 (by decide) (hts _ q271) (fun _ h9 => h9) rfl dX0_keep_18 ?_
    obtain ⟨hg_5, hf⟩ := sm_gd_e hf
    obtain ⟨T_6, h_7, hf⟩ := sm_b1_e hf
    refine va_callv (va_runV (As := [.ref (ad 29)]) (rest := []) ⟨hx, hb, hml, hown, hts⟩ (wX2_copyOf l g (ai ad (2 + a1.toNatClampNeg)) (ai ad 0) (S.2.2.1 0) (S.2.2.1 (2 + a1.toNatClampNeg))  T_6 h_7) (cwV 1 hts (lw_V q623 q624 q625 q62 q626) rfl rfl rfl (by decide +kernel) ⟨Nat.le_of_ble_eq_true rfl, Nat.le_of_ble_eq_true rfl⟩) (sm_pe hE (sm_pII (j := (2 + a1.toNatClampNeg)) (i := 0) (sm_im hi_4) (by decide) hP) (sm_dII (j := (2 + a1.toNatClampNeg)) (i := 0) (sm_im hi_4) (by decide) (of_decide_eq_true hg_5) (sm_DX.mp hD).1) (va_recv hK (sm_pII (j := (2 + a1.toNatClampNeg)) (i := 0) (sm_im hi_4) (by decide) hP) (ci := 2) (q0 := 0) rfl rfl)) rfl rfl hl.1 rfl (lv_room (Nat.le_of_ble_eq_true rfl)) dX0_keep_21 ⟨Nat.le_of_ble_eq_true rfl, Nat.le_of_ble_eq_true rfl⟩) hS (fun q _ h => (sm_aII (j := (2 + a1.toNatClampNeg)) (i := 0) (sm_im hi_4) (by decide) q h)) (sm_aII (j := (2 + a1.toNatClampNeg)) (i := 0) (sm_im hi_4) (by decide)) (fun u t H locs ht hvm er_8 hB hz hk hS => ?_)
    rw [ht] at hB
    obtain ⟨S_10, eS_10, hf⟩ := sm_lt_e hf
    have hP : PP g (WX g ad S_10) H := by rw [eS_10]; exact sm_xiII (j := (2 + a1.toNatClampNeg)) (i0 := 0) (sm_im hi_4) (by decide) (of_decide_eq_true hg_5) (sm_DX.mp hD).1 hP hk hB.1
    have hD : va_D (AX ad) (WX g ad S_10) := by rw [eS_10]; exact sm_dX hD
    refine lv_aload_n hx hb dX0_keep_24 rfl (lv_at hl 0 rfl) ?_
    refine va_get (D := (g.1, g.2.1)) (ci := 0) (v := .ref (ad 8)) (C := RX0) (T := TX0) (N := 20) hx hb hts in_X0 hown hK hP 0 rfl rfl 6 (by decide) (hts _ q276) (fun _ h9 => h9) rfl dX0_keep_25 ?_
    refine lv_iload_n hx hb dX0_keep_28 rfl (lv_at hl 1 rfl) ?_
    refine lv_iconst (v := 1) hx hb dX0_keep_29 (by decide) ?_
    obtain ⟨hg, hf⟩ := sm_gd_e hf
    refine va_zast (i := a1) (x := 1) hx hb hK hP hD hS 8 2 rfl rfl (sm_in hg) dX0_keep_30 (fun H locs hP hD hS => ?_)
    obtain ⟨S_11, eS_11, hf⟩ := sm_lt_e hf
    have hP : PP g (WX g ad S_11) H := by rw [eS_11]; exact pxr6 hP
    have hD : va_D (AX ad) (WX g ad S_11) := by rw [eS_11]; exact dxr6 hD
    refine lv_aload_n hx hb dX0_keep_31 rfl (lv_at hl 0 rfl) ?_
    refine va_get (D := (g.1, g.2.1)) (ci := 0) (v := .ref (ad 29)) (C := RX0) (T := TX0) (N := 20) hx hb hts in_X0 hown hK hP 0 rfl rfl 1 (by decide) (hts _ q271) (fun _ h9 => h9) rfl dX0_keep_32 ?_
    refine va_getN (D := (g.1, g.2.1)) (ci := 2) (v := .int ((S_11.2.2.1 0).1 0)) (C := RX2) (T := TX2) (N := 7) hx hb hts in_X2 hown hK hP 29 rfl rfl 0 (by decide) (va_Nw.use rfl (hN _ q161 rfl)) (fun _ h9 => h9) rfl dX0_keep_35 ?_
    have hf := Option.some.inj hf
    rw [← hQ]
    have hf := Prod.mk.inj hf
    exact W.iret (v := (S_11.2.2.1 0).1 0) hx hb hr (fun t ht hW => ⟨⟨_, (), rfl, hf.2, by rw [ht, ← hf.1]; exact hP, by rw [← hf.1]; exact hD⟩, hS.F ht⟩) hS.2.2 dX0_keep_38
  · have hf := (if_pos c_3).symm.trans hf
    refine lv_iconst (v := (-1)) hx hb dX0_keep_9 (by decide) ?_
    have hf := Option.some.inj hf
    rw [← hQ]
    have hf := Prod.mk.inj hf
    exact W.iret (v := (-1)) hx hb hr (fun t ht hW => ⟨⟨_, (), rfl, hf.2, by rw [ht, ← hf.1]; exact hP, by rw [← hf.1]; exact hD⟩, hS.F ht⟩) hS.2.2 dX0_keep_10
