/-! SmokedLetters, walked: printed by gen/xmain.py -/
set_option maxRecDepth 100000
abbrev rX0_part : Room := { frames := 101, cells := 0, slots := 0, locals := 2323 }
set_option maxHeartbeats 4000000 in
theorem wX0_part (l : Launch) (a1 : Int64) (a2 : Int64) (a3 : Int32) (rf : Int64) (hf : fX0_part a1 a2 a3 = some rf) : Met l yX0_part (ws_ yX0_part cX0_part 7 (some .long)) rX0_part (va_Pc [.long a1, .long a2, .int a3] (fun _ => True)) (vp_Sl (fun y => y = rf)) 0 0 (fun _ => False) := by
  refine sm_st (by decide) ?_
  intro p e s m args below meth c hx hb hr hlocks hml hown hnm hts hv
  obtain ⟨hargs, -⟩ := hv
  have hown : s.vm.findClass RX0 = some m.cls := hown
  refine sm_en _ (Nat.le_of_ble_eq_true rfl) hargs (fun ls hl => ?_)
  have hl : lv_has ls 7 [(0, .long a1), (2, .long a2), (4, .int a3)] := hl
  generalize hQ : MQ below _ args s _ _ _ = Q
  unfold fX0_part at hf
  refine lv_lload_n hx hb dX0_part_0 rfl (lv_at hl 0 rfl) ?_
  refine lv_lload_n hx hb dX0_part_1 rfl (lv_at hl 1 rfl) ?_
  obtain ⟨r_1, h_2, hf⟩ := sm_b1_e hf
  refine vp_callSl (W.runS (As := [.long a1, .long a2]) (rest := []) ⟨hx, hb, hml, hown, hts⟩ (wX0_common l 100 a1 a2 r_1 h_2) (va_cwS 2 hts (lw_S q717 q718 q60 q719) rfl rfl rfl (by decide +kernel) ⟨Nat.le_of_ble_eq_true rfl, Nat.le_of_ble_eq_true rfl⟩) (sm_ps) rfl rfl hl.1 rfl (lv_room (Nat.le_of_ble_eq_true rfl)) dX0_part_2 ⟨Nat.le_of_ble_eq_true rfl, Nat.le_of_ble_eq_true rfl⟩) (fun r_4 er_3 => ?_)
  have er_3 := er_3.symm
  subst er_3
  refine lv_lstore (lv' := [(5, .long r_1), (0, .long a1), (2, .long a2), (4, .int a3)]) hx hb dX0_part_5 hl (by decide) rfl (fun ls hl => ?_)
  refine lv_iload hx hb dX0_part_7 (lv_at hl 3 rfl) ?_
  refine lv_if_ne (tgt := 19) hx hb dX0_part_9 (by decide) (fun c_5 => ?_) (fun c_5 => ?_)
  · have hf := (if_neg c_5).symm.trans hf
    refine lv_lload_n hx hb dX0_part_19 rfl (lv_at hl 2 rfl) ?_
    refine lv_lload hx hb dX0_part_20 (lv_at hl 0 rfl) ?_
    obtain ⟨hg, hf⟩ := sm_gd_e hf
    refine lv_ldiv hx hb dX0_part_22 (sm_nel hg) ?_
    have hf := Option.some.inj hf
    rw [← hQ]
    exact W.lret (v := a2 / r_1) hx hb hr (fun t ht hW => ⟨_, rfl, hf, ht⟩) (fun _ h => by cases h) dX0_part_23
  · have hf := (if_pos c_5).symm.trans hf
    refine lv_lload_n hx hb dX0_part_12 rfl (lv_at hl 1 rfl) ?_
    refine lv_lload hx hb dX0_part_13 (lv_at hl 0 rfl) ?_
    obtain ⟨hg, hf⟩ := sm_gd_e hf
    refine lv_ldiv hx hb dX0_part_15 (sm_nel hg) ?_
    refine lv_goto (tgt := 23) hx hb dX0_part_16 (by decide) ?_
    have hf := Option.some.inj hf
    rw [← hQ]
    exact W.lret (v := a1 / r_1) hx hb hr (fun t ht hW => ⟨_, rfl, hf, ht⟩) (fun _ h => by cases h) dX0_part_23
abbrev rX0_clean : Room := { frames := 102, cells := 0, slots := 0, locals := 2349 }
set_option maxHeartbeats 4000000 in
theorem wX0_clean (l : Launch) (g : GG) (ad : Nat → Nat) (S : XS) (a1 : Int32) (a2 : Int32) (rf : Int64) (hf : fX0_clean S a1 a2 = some rf) : Met l yX0_clean (ws_ yX0_clean cX0_clean 8 (some .long)) rX0_clean (va_Pc [.ref (ad 0), .int a1, .int a2] (fun Ux => PP g (WX g ad S) Ux.heap ∧ EV g Ux)) (vp_Sl (fun y => y = rf)) 0 0 (fun _ => False) := by
  refine sm_st (by decide) ?_
  intro p e s m args below meth c hx hb hr hlocks hml hown hnm hts hv
  obtain ⟨hargs, hP, hE⟩ := hv
  obtain ⟨hK, hN⟩ := id hE
  have hown : s.vm.findClass RX0 = some m.cls := hown
  refine sm_en _ (Nat.le_of_ble_eq_true rfl) hargs (fun ls hl => ?_)
  have hl : lv_has ls 8 [(0, .ref (ad 0)), (1, .int a1), (2, .int a2)] := hl
  generalize hQ : MQ below _ args s _ _ _ = Q
  unfold fX0_clean at hf
  refine lv_aload_n hx hb dX0_clean_0 rfl (lv_at hl 0 rfl) ?_
  refine lv_iload_n hx hb dX0_clean_1 rfl (lv_at hl 1 rfl) ?_
  refine vp_callSi (W.runV (As := [.int a1]) (rest := []) ⟨hx, hb, hml, hown, hts⟩ (wX0_isRow l g ad S a1 (fX0_isRow S a1) rfl) (cwV 1 hts (lw_V q612 q614 qs9 q60 q615) rfl rfl rfl (by decide +kernel) ⟨Nat.le_of_ble_eq_true rfl, Nat.le_of_ble_eq_true rfl⟩) (sm_pv hE hP (va_recv hK hP (ci := 0) (q0 := 0) rfl rfl)) rfl rfl hl.1 rfl (lv_room (Nat.le_of_ble_eq_true rfl)) dX0_clean_2 ⟨Nat.le_of_ble_eq_true rfl, Nat.le_of_ble_eq_true rfl⟩) (fun r_2 er_1 => ?_)
  have er_1 := er_1.symm
  subst er_1
  refine lv_if_eq (tgt := 17) hx hb dX0_clean_5 (by decide) (fun c_3 => ?_) (fun c_3 => ?_)
  · have hf := (if_pos c_3).symm.trans hf
    refine lv_ldc2 (v := (-1)) hx hb hown (hts _ q712) dX0_clean_17 ?_
    have hf := Option.some.inj hf
    rw [← hQ]
    exact W.lret (v := (-1)) hx hb hr (fun t ht hW => ⟨_, rfl, hf, ht⟩) (fun _ h => by cases h) dX0_clean_20
  · have hf := (if_neg c_3).symm.trans hf
    refine lv_iload_n hx hb dX0_clean_8 rfl (lv_at hl 2 rfl) ?_
    refine lv_iconst (v := 0) hx hb dX0_clean_9 (by decide) ?_
    refine lv_iconst (v := 1) hx hb dX0_clean_10 (by decide) ?_
    refine vp_callSi (W.runS (As := [.int a2, .int 0, .int 1]) (rest := []) ⟨hx, hb, hml, hown, hts⟩ (wX0_in l a2 0 1 (fX0_in a2 0 1) rfl) (va_cwS 3 hts (lw_S q343 q344 q60 q345) rfl rfl rfl (by decide +kernel) ⟨Nat.le_of_ble_eq_true rfl, Nat.le_of_ble_eq_true rfl⟩) (sm_ps) rfl rfl hl.1 rfl (lv_room (Nat.le_of_ble_eq_true rfl)) dX0_clean_11 ⟨Nat.le_of_ble_eq_true rfl, Nat.le_of_ble_eq_true rfl⟩) (fun r_5 er_4 => ?_)
    have er_4 := er_4.symm
    subst er_4
    refine lv_if_ne (tgt := 21) hx hb dX0_clean_14 (by decide) (fun c_6 => ?_) (fun c_6 => ?_)
    · have hf := (if_neg c_6).symm.trans hf
      refine lv_lconst (v := 1) hx hb dX0_clean_21 (by decide) ?_
      refine lv_lstore_n (lv' := [(3, .long 1), (0, .ref (ad 0)), (1, .int a1), (2, .int a2)]) hx hb dX0_clean_22 rfl hl (by decide) rfl (fun ls hl => ?_)
      refine lv_lconst (v := 1) hx hb dX0_clean_23 (by decide) ?_
      refine lv_lstore (lv' := [(5, .long 1), (3, .long 1), (0, .ref (ad 0)), (1, .int a1), (2, .int a2)]) hx hb dX0_clean_24 hl (by decide) rfl (fun ls hl => ?_)
      refine lv_iconst (v := 0) hx hb dX0_clean_26 (by decide) ?_
      refine lv_istore (lv' := [(7, .int 0), (5, .long 1), (3, .long 1), (0, .ref (ad 0)), (1, .int a1), (2, .int a2)]) hx hb dX0_clean_27 hl (by decide) rfl (fun ls hl => ?_)
      have L_15 : ∀ (n : Nat) (x_7 : Int32) (x_8 : Int64) (x_9 : Int64) (o_16 : Int32) (o_17 : Int64) (o_18 : Int64) (ls : Array Slot), sm_lp (fun q => fX0_clean_29 S a1 q.1 q.2.1 q.2.2) n (x_7, x_8, x_9) = some (o_16, o_17, o_18) → lv_has ls 8 [(0, .ref (ad 0)), (1, .int a1), (2, .int a2), (7, .int x_7), (5, .long x_8), (3, .long x_9)] → (∀ (ls : Array Slot), lv_has ls 8 [(0, .ref (ad 0)), (1, .int a1), (2, .int a2), (7, .int o_16), (5, .long o_17), (3, .long o_18)] → W p l e rX0_clean s m args below meth c s.heap [] 0 0 Q (F0 m 86 ls [])) → W p l e rX0_clean s m args below meth c s.heap [] 0 0 Q (F0 m 29 ls []) := by
        intro n
        induction n with
        | zero =>
          intro _ _ _ _ _ _ _ hf
          cases hf
        | succ n ih_10 =>
          intro x_7 x_8 x_9 o_16 o_17 o_18 ls hf hl kx_11
          obtain ⟨q, hf, hc_14⟩ := sm_bnd hf
          have hf : fX0_clean_29 S a1 x_7 x_8 x_9 = some q := hf
          unfold fX0_clean_29 at hf
          refine lv_iload hx hb dX0_clean_29 (lv_at hl 3 rfl) ?_
          refine lv_aload_n hx hb dX0_clean_31 rfl (lv_at hl 0 rfl) ?_
          refine va_get (D := (g.1, g.2.1)) (ci := 0) (v := .ref (ad 1)) (C := RX0) (T := TX0) (N := 20) hx hb hts in_X0 hown hK hP 0 rfl rfl 0 (by decide) (hts _ q269) (fun _ h9 => h9) rfl dX0_clean_32 ?_
          refine va_getN (D := (g.1, g.2.1)) (ci := 1) (v := .int (S.2.2.2.2.1.1 6)) (C := RX1) (T := TX1) (N := 9) hx hb hts in_X1 hown hK hP 1 rfl rfl 6 (by decide) (va_Nw.use rfl (hN _ q121 rfl)) (fun _ h9 => h9) rfl dX0_clean_35 ?_
          refine lv_icmp_ge (tgt := 86) hx hb dX0_clean_38 (by decide) (fun c_19 => ?_) (fun c_19 => ?_)
          · have hf := (if_pos c_19).symm.trans hf
            cases hf
            have hc_14 : some (x_7, x_8, x_9) = some (o_16, o_17, o_18) := hc_14
            cases hc_14
            exact kx_11 _ (lv_sub hl [0, 1, 2, 3, 4, 5] rfl)
          · have hf := (if_neg c_19).symm.trans hf
            refine lv_aload_n hx hb dX0_clean_41 rfl (lv_at hl 0 rfl) ?_
            refine va_get (D := (g.1, g.2.1)) (ci := 0) (v := .ref (ad 29)) (C := RX0) (T := TX0) (N := 20) hx hb hts in_X0 hown hK hP 0 rfl rfl 1 (by decide) (hts _ q271) (fun _ h9 => h9) rfl dX0_clean_42 ?_
            refine va_getN (D := (g.1, g.2.1)) (ci := 2) (v := .ref (ad 30)) (C := RX2) (T := TX2) (N := 7) hx hb hts in_X2 hown hK hP 29 rfl rfl 3 (by decide) (va_Nw.use rfl (hN _ q168 rfl)) (fun _ h9 => h9) rfl dX0_clean_45 ?_
            refine lv_iload hx hb dX0_clean_48 (lv_at hl 3 rfl) ?_
            obtain ⟨hg, hf⟩ := sm_gd_e hf
            refine va_iald hx hb hK hP 30 0 rfl rfl (sm_in hg) dX0_clean_50 ?_
            refine lv_iload_n hx hb dX0_clean_51 rfl (lv_at hl 1 rfl) ?_
            refine lv_icmp_ne (tgt := 80) hx hb dX0_clean_52 (by decide) (fun c_20 => ?_) (fun c_20 => ?_)
            · have hf := (if_neg c_20).symm.trans hf
              refine lv_iinc (v := x_7 + 1) (lv' := [(7, .int (x_7 + 1)), (0, .ref (ad 0)), (1, .int a1), (2, .int a2), (5, .long x_8), (3, .long x_9)]) hx hb dX0_clean_80 hl (k := 3) rfl rfl (by decide) rfl (fun ls hl => ?_)
              refine lv_goto (tgt := 29) hx hb dX0_clean_83 (by decide) ?_
              cases hf
              exact ih_10 _ _ _ _ _ _ _ hc_14 (lv_sub hl [1, 2, 3, 0, 4, 5] rfl) kx_11
            · have hf := (if_pos c_20).symm.trans hf
              refine lv_lload_n hx hb dX0_clean_55 rfl (lv_at hl 5 rfl) ?_
              refine lv_bipush (v := 10) hx hb dX0_clean_56 (by decide) ?_
              refine lv_aload_n hx hb dX0_clean_58 rfl (lv_at hl 0 rfl) ?_
              refine va_get (D := (g.1, g.2.1)) (ci := 0) (v := .ref (ad 1)) (C := RX0) (T := TX0) (N := 20) hx hb hts in_X0 hown hK hP 0 rfl rfl 0 (by decide) (hts _ q269) (fun _ h9 => h9) rfl dX0_clean_59 ?_
              refine va_getN (D := (g.1, g.2.1)) (ci := 1) (v := .ref (ad 4)) (C := RX1) (T := TX1) (N := 9) hx hb hts in_X1 hown hK hP 1 rfl rfl 2 (by decide) (va_Nw.use rfl (hN _ q107 rfl)) (fun _ h9 => h9) rfl dX0_clean_62 ?_
              refine lv_iload hx hb dX0_clean_65 (lv_at hl 3 rfl) ?_
              obtain ⟨hg, hf⟩ := sm_gd_e hf
              refine va_iald hx hb hK hP 4 0 rfl rfl (sm_in hg) dX0_clean_67 ?_
              refine lv_isub hx hb dX0_clean_68 ?_
              refine lv_i2l (v := (10 - (S.2.2.2.2.1.2 2 x_7.toNatClampNeg)).toInt64) hx hb dX0_clean_69 rfl ?_
              refine lv_lmul hx hb dX0_clean_70 ?_
              refine lv_topl (fun x_21 ex_21 => ?_)
              have hf := sm_lt_v hf ex_21
              refine lv_lstore_n (lv' := [(3, .long x_21), (0, .ref (ad 0)), (1, .int a1), (2, .int a2), (7, .int x_7), (5, .long x_8)]) hx hb dX0_clean_71 rfl hl (by decide) rfl (fun ls hl => ?_)
              refine lv_lload hx hb dX0_clean_72 (lv_at hl 5 rfl) ?_
              refine lv_ldc2 (v := 10) hx hb hown (hts _ q713) dX0_clean_74 ?_
              refine lv_lmul hx hb dX0_clean_77 ?_
              refine lv_lstore (lv' := [(5, .long (x_8 * 10)), (3, .long x_21), (0, .ref (ad 0)), (1, .int a1), (2, .int a2), (7, .int x_7)]) hx hb dX0_clean_78 hl (by decide) rfl (fun ls hl => ?_)
              refine lv_iinc (v := x_7 + 1) (lv' := [(7, .int (x_7 + 1)), (5, .long (x_8 * 10)), (3, .long x_21), (0, .ref (ad 0)), (1, .int a1), (2, .int a2)]) hx hb dX0_clean_80 hl (k := 5) rfl rfl (by decide) rfl (fun ls hl => ?_)
              refine lv_goto (tgt := 29) hx hb dX0_clean_83 (by decide) ?_
              cases hf
              exact ih_10 _ _ _ _ _ _ _ hc_14 (lv_sub hl [3, 4, 5, 0, 1, 2] rfl) kx_11
      obtain ⟨x_23, x_24, x_25, ho, hf⟩ := sm_b3_e hf
      refine L_15 FU 0 1 1 x_23 x_24 x_25 ls ho (lv_sub hl [3, 4, 5, 0, 1, 2] rfl) ?_
      intro ls hl
      refine lv_lload_n hx hb dX0_clean_86 rfl (lv_at hl 5 rfl) ?_
      refine lv_lload hx hb dX0_clean_87 (lv_at hl 4 rfl) ?_
      refine lv_iload_n hx hb dX0_clean_89 rfl (lv_at hl 2 rfl) ?_
      obtain ⟨r_26, h_27, hf⟩ := sm_b1_e hf
      refine vp_callSl (W.runS (As := [.long x_25, .long x_24, .int a2]) (rest := []) ⟨hx, hb, hml, hown, hts⟩ (wX0_part l x_25 x_24 a2 r_26 h_27) (va_cwS 3 hts (lw_S q714 q715 q60 q716) rfl rfl rfl (by decide +kernel) ⟨Nat.le_of_ble_eq_true rfl, Nat.le_of_ble_eq_true rfl⟩) (sm_ps) rfl rfl hl.1 rfl (lv_room (Nat.le_of_ble_eq_true rfl)) dX0_clean_90 ⟨Nat.le_of_ble_eq_true rfl, Nat.le_of_ble_eq_true rfl⟩) (fun r_29 er_28 => ?_)
      have er_28 := er_28.symm
      subst er_28
      have hf := Option.some.inj hf
      rw [← hQ]
      exact W.lret (v := r_26) hx hb hr (fun t ht hW => ⟨_, rfl, hf, ht⟩) (fun _ h => by cases h) dX0_clean_93
    · have hf := (if_pos c_6).symm.trans hf
      refine lv_ldc2 (v := (-1)) hx hb hown (hts _ q712) dX0_clean_17 ?_
      have hf := Option.some.inj hf
      rw [← hQ]
      exact W.lret (v := (-1)) hx hb hr (fun t ht hW => ⟨_, rfl, hf, ht⟩) (fun _ h => by cases h) dX0_clean_20
abbrev rX0_well : Room := { frames := 102, cells := 0, slots := 0, locals := 2349 }
set_option maxHeartbeats 4000000 in
theorem wX0_well (l : Launch) (g : GG) (ad : Nat → Nat) (S : XS) (a1 : Int32) (a2 : Int32) (a3 : Int32) (rf : Int64) (hf : fX0_well S a1 a2 a3 = some rf) : Met l yX0_well (ws_ yX0_well cX0_well 6 (some .long)) rX0_well (va_Pc [.ref (ad 0), .int a1, .int a2, .int a3] (fun Ux => PP g (WX g ad S) Ux.heap ∧ EV g Ux)) (vp_Sl (fun y => y = rf)) 0 0 (fun _ => False) := by
  refine sm_st (by decide) ?_
  intro p e s m args below meth c hx hb hr hlocks hml hown hnm hts hv
  obtain ⟨hargs, hP, hE⟩ := hv
  obtain ⟨hK, hN⟩ := id hE
  have hown : s.vm.findClass RX0 = some m.cls := hown
  refine sm_en _ (Nat.le_of_ble_eq_true rfl) hargs (fun ls hl => ?_)
  have hl : lv_has ls 6 [(0, .ref (ad 0)), (1, .int a1), (2, .int a2), (3, .int a3)] := hl
  generalize hQ : MQ below _ args s _ _ _ = Q
  unfold fX0_well at hf
  refine lv_aload_n hx hb dX0_well_0 rfl (lv_at hl 0 rfl) ?_
  refine lv_iload_n hx hb dX0_well_1 rfl (lv_at hl 1 rfl) ?_
  refine vp_callSi (W.runV (As := [.int a1]) (rest := []) ⟨hx, hb, hml, hown, hts⟩ (wX0_isTraveller l g ad S a1 (fX0_isTraveller S a1) rfl) (cwV 1 hts (lw_V q580 q582 qs7 q60 q583) rfl rfl rfl (by decide +kernel) ⟨Nat.le_of_ble_eq_true rfl, Nat.le_of_ble_eq_true rfl⟩) (sm_pv hE hP (va_recv hK hP (ci := 0) (q0 := 0) rfl rfl)) rfl rfl hl.1 rfl (lv_room (Nat.le_of_ble_eq_true rfl)) dX0_well_2 ⟨Nat.le_of_ble_eq_true rfl, Nat.le_of_ble_eq_true rfl⟩) (fun r_2 er_1 => ?_)
  have er_1 := er_1.symm
  subst er_1
  refine lv_if_eq (tgt := 27) hx hb dX0_well_5 (by decide) (fun c_3 => ?_) (fun c_3 => ?_)
  · have hf := (if_pos c_3).symm.trans hf
    refine lv_ldc2 (v := (-1)) hx hb hown (hts _ q712) dX0_well_27 ?_
    have hf := Option.some.inj hf
    rw [← hQ]
    exact W.lret (v := (-1)) hx hb hr (fun t ht hW => ⟨_, rfl, hf, ht⟩) (fun _ h => by cases h) dX0_well_30
  · have hf := (if_neg c_3).symm.trans hf
    refine lv_iload_n hx hb dX0_well_8 rfl (lv_at hl 2 rfl) ?_
    refine lv_iconst (v := 0) hx hb dX0_well_9 (by decide) ?_
    refine lv_bipush (v := 6) hx hb dX0_well_10 (by decide) ?_
    refine vp_callSi (W.runS (As := [.int a2, .int 0, .int 6]) (rest := []) ⟨hx, hb, hml, hown, hts⟩ (wX0_in l a2 0 6 (fX0_in a2 0 6) rfl) (va_cwS 3 hts (lw_S q343 q344 q60 q345) rfl rfl rfl (by decide +kernel) ⟨Nat.le_of_ble_eq_true rfl, Nat.le_of_ble_eq_true rfl⟩) (sm_ps) rfl rfl hl.1 rfl (lv_room (Nat.le_of_ble_eq_true rfl)) dX0_well_12 ⟨Nat.le_of_ble_eq_true rfl, Nat.le_of_ble_eq_true rfl⟩) (fun r_5 er_4 => ?_)
    have er_4 := er_4.symm
    subst er_4
    refine lv_if_eq (tgt := 27) hx hb dX0_well_15 (by decide) (fun c_6 => ?_) (fun c_6 => ?_)
    · have hf := (if_pos c_6).symm.trans hf
      refine lv_ldc2 (v := (-1)) hx hb hown (hts _ q712) dX0_well_27 ?_
      have hf := Option.some.inj hf
      rw [← hQ]
      exact W.lret (v := (-1)) hx hb hr (fun t ht hW => ⟨_, rfl, hf, ht⟩) (fun _ h => by cases h) dX0_well_30
    · have hf := (if_neg c_6).symm.trans hf
      refine lv_iload_n hx hb dX0_well_18 rfl (lv_at hl 3 rfl) ?_
      refine lv_iconst (v := 0) hx hb dX0_well_19 (by decide) ?_
      refine lv_iconst (v := 1) hx hb dX0_well_20 (by decide) ?_
      refine vp_callSi (W.runS (As := [.int a3, .int 0, .int 1]) (rest := []) ⟨hx, hb, hml, hown, hts⟩ (wX0_in l a3 0 1 (fX0_in a3 0 1) rfl) (va_cwS 3 hts (lw_S q343 q344 q60 q345) rfl rfl rfl (by decide +kernel) ⟨Nat.le_of_ble_eq_true rfl, Nat.le_of_ble_eq_true rfl⟩) (sm_ps) rfl rfl hl.1 rfl (lv_room (Nat.le_of_ble_eq_true rfl)) dX0_well_21 ⟨Nat.le_of_ble_eq_true rfl, Nat.le_of_ble_eq_true rfl⟩) (fun r_8 er_7 => ?_)
      have er_7 := er_7.symm
      subst er_7
      refine lv_if_ne (tgt := 31) hx hb dX0_well_24 (by decide) (fun c_9 => ?_) (fun c_9 => ?_)
      · have hf := (if_neg c_9).symm.trans hf
        refine lv_aload_n hx hb dX0_well_31 rfl (lv_at hl 0 rfl) ?_
        refine lv_iload_n hx hb dX0_well_32 rfl (lv_at hl 2 rfl) ?_
        refine lv_bipush (v := (-9)) hx hb dX0_well_33 (by decide) ?_
        obtain ⟨r_10, h_11, hf⟩ := sm_b1_e hf
        refine vp_callSl (W.runV (As := [.int a2, .int (-9)]) (rest := []) ⟨hx, hb, hml, hown, hts⟩ (wX0_ways l g ad S a2 (-9) r_10 h_11) (cwV 2 hts (lw_V q724 q726 qs16 q60 q727) rfl rfl rfl (by decide +kernel) ⟨Nat.le_of_ble_eq_true rfl, Nat.le_of_ble_eq_true rfl⟩) (sm_pv hE hP (va_recv hK hP (ci := 0) (q0 := 0) rfl rfl)) rfl rfl hl.1 rfl (lv_room (Nat.le_of_ble_eq_true rfl)) dX0_well_35 ⟨Nat.le_of_ble_eq_true rfl, Nat.le_of_ble_eq_true rfl⟩) (fun r_13 er_12 => ?_)
        have er_12 := er_12.symm
        subst er_12
        refine lv_lstore (lv' := [(4, .long r_10), (0, .ref (ad 0)), (1, .int a1), (2, .int a2), (3, .int a3)]) hx hb dX0_well_38 hl (by decide) rfl (fun ls hl => ?_)
        refine lv_lload hx hb dX0_well_40 (lv_at hl 0 rfl) ?_
        refine lv_lconst (v := 0) hx hb dX0_well_42 (by decide) ?_
        refine W.lcmp hx hb dX0_well_43 ?_
        refine lv_if_ne (tgt := 53) hx hb dX0_well_44 (by decide) (fun c_14 => ?_) (fun c_14 => ?_)
        · have hf := (if_neg c_14).symm.trans hf
          refine lv_aload_n hx hb dX0_well_53 rfl (lv_at hl 1 rfl) ?_
          refine lv_iload_n hx hb dX0_well_54 rfl (lv_at hl 3 rfl) ?_
          refine lv_iload_n hx hb dX0_well_55 rfl (lv_at hl 2 rfl) ?_
          obtain ⟨r_15, h_16, hf⟩ := sm_b1_e hf
          refine vp_callSl (W.runV (As := [.int a2, .int a1]) (rest := []) ⟨hx, hb, hml, hown, hts⟩ (wX0_ways l g ad S a2 a1 r_15 h_16) (cwV 2 hts (lw_V q724 q726 qs16 q60 q727) rfl rfl rfl (by decide +kernel) ⟨Nat.le_of_ble_eq_true rfl, Nat.le_of_ble_eq_true rfl⟩) (sm_pv hE hP (va_recv hK hP (ci := 0) (q0 := 0) rfl rfl)) rfl rfl hl.1 rfl (lv_room (Nat.le_of_ble_eq_true rfl)) dX0_well_56 ⟨Nat.le_of_ble_eq_true rfl, Nat.le_of_ble_eq_true rfl⟩) (fun r_18 er_17 => ?_)
          have er_17 := er_17.symm
          subst er_17
          refine lv_lload hx hb dX0_well_59 (lv_at hl 0 rfl) ?_
          refine lv_iload_n hx hb dX0_well_61 rfl (lv_at hl 4 rfl) ?_
          obtain ⟨r_19, h_20, hf⟩ := sm_b1_e hf
          refine vp_callSl (W.runS (As := [.long r_15, .long r_10, .int a3]) (rest := []) ⟨hx, hb, hml, hown, hts⟩ (wX0_part l r_15 r_10 a3 r_19 h_20) (va_cwS 3 hts (lw_S q714 q715 q60 q716) rfl rfl rfl (by decide +kernel) ⟨Nat.le_of_ble_eq_true rfl, Nat.le_of_ble_eq_true rfl⟩) (sm_ps) rfl rfl hl.1 rfl (lv_room (Nat.le_of_ble_eq_true rfl)) dX0_well_62 ⟨Nat.le_of_ble_eq_true rfl, Nat.le_of_ble_eq_true rfl⟩) (fun r_22 er_21 => ?_)
          have er_21 := er_21.symm
          subst er_21
          have hf := Option.some.inj hf
          rw [← hQ]
          exact W.lret (v := r_19) hx hb hr (fun t ht hW => ⟨_, rfl, hf, ht⟩) (fun _ h => by cases h) dX0_well_65
        · have hf := (if_pos c_14).symm.trans hf
          refine lv_ldc2 (v := (-9)) hx hb hown (hts _ q728) dX0_well_47 ?_
          refine lv_goto (tgt := 65) hx hb dX0_well_50 (by decide) ?_
          have hf := Option.some.inj hf
          rw [← hQ]
          exact W.lret (v := (-9)) hx hb hr (fun t ht hW => ⟨_, rfl, hf, ht⟩) (fun _ h => by cases h) dX0_well_65
      · have hf := (if_pos c_9).symm.trans hf
        refine lv_ldc2 (v := (-1)) hx hb hown (hts _ q712) dX0_well_27 ?_
        have hf := Option.some.inj hf
        rw [← hQ]
        exact W.lret (v := (-1)) hx hb hr (fun t ht hW => ⟨_, rfl, hf, ht⟩) (fun _ h => by cases h) dX0_well_30
abbrev rX0_findRow_k1 : Room := { frames := 2, cells := 0, slots := 0, locals := 48 }
set_option maxHeartbeats 4000000 in
theorem wX0_findRow_k1 (l : Launch) (g : GG) (ad : Nat → Nat) (S : XS) (a1 : Int32) (a2 : Int32) (a3 : Int32) (Sf : XS) (rf : Int32) (hf : fX0_findRow_k1 S a1 a2 a3 = some (Sf, rf)) : Met l yX0_findRow (ws_ yX0_findRow cX0_findRow 5 (some .boolean)) rX0_findRow_k1 (va_Pc [.ref (ad 0), .int a1, .int a2, .int a3] (fun Ux => PP g (WX g ad S) Ux.heap ∧ EV g Ux ∧ va_D (AX ad) (WX g ad S))) (va_Qi (fun y (_ : Unit) => y = rf) (fun _ t => PP g (WX g ad Sf) t.heap ∧ va_D (AX ad) (WX g ad Sf)) (AX ad)) 0 0 (AX ad) := by
  refine sm_st (by decide) ?_
  intro p e s m args below meth c hx hb hr hlocks hml hown hnm hts hv
  obtain ⟨hargs, hP, hE, hD⟩ := hv
  obtain ⟨hK, hN⟩ := id hE
  have hS : va_S (AX ad) s.heap s.heap [] := va_S.rf
  have hown : s.vm.findClass RX0 = some m.cls := hown
  refine sm_en _ (Nat.le_of_ble_eq_true rfl) hargs (fun ls hl => ?_)
  have hl : lv_has ls 5 [(0, .ref (ad 0)), (1, .int a1), (2, .int a2), (3, .int a3)] := hl
  generalize hQ : MQ below _ args s _ _ _ = Q
  unfold fX0_findRow_k1 at hf
  refine lv_iload_n hx hb dX0_findRow_0 rfl (lv_at hl 1 rfl) ?_
  refine lv_iload_n hx hb dX0_findRow_1 rfl (lv_at hl 2 rfl) ?_
  refine lv_icmp_ne (tgt := 15) hx hb dX0_findRow_2 (by decide) (fun c_1 => ?_) (fun c_1 => ?_)
  · have hf := (if_neg c_1).symm.trans hf
    refine lv_iconst (v := 0) hx hb dX0_findRow_15 (by decide) ?_
    refine lv_istore (lv' := [(4, .int 0), (0, .ref (ad 0)), (1, .int a1), (2, .int a2), (3, .int a3)]) hx hb dX0_findRow_16 hl (by decide) rfl (fun ls hl => ?_)
    have L_9 : ∀ (n : Nat) (x_2 : Int32) (S_3 : XS) (o_7 : ((Int32 × XS) ⊕ (XS × Int32))) (H : Heap) (locs : List Loc) (ls : Array Slot), sm_lp (fun q => fX0_findRow_k1_18 a1 a2 a3 q.1 q.2) n (x_2, S_3) = some o_7 → PP g (WX g ad S_3) H → va_D (AX ad) (WX g ad S_3) → va_S (AX ad) s.heap H locs → lv_has ls 5 [(0, .ref (ad 0)), (1, .int a1), (2, .int a2), (3, .int a3), (4, .int x_2)] → (∀ (x_2 : Int32) (S_3 : XS) (H : Heap) (locs : List Loc) (ls : Array Slot), o_7 = Sum.inl (x_2, S_3) → PP g (WX g ad S_3) H → va_D (AX ad) (WX g ad S_3) → va_S (AX ad) s.heap H locs → lv_has ls 5 [(0, .ref (ad 0)), (1, .int a1), (2, .int a2), (3, .int a3), (4, .int x_2)] → W p l e rX0_findRow_k1 s m args below meth c H locs 0 0 Q (F0 m 72 ls [])) → (∀ rv : (XS × Int32), o_7 = Sum.inr rv → rv = (Sf, rf)) → W p l e rX0_findRow_k1 s m args below meth c H locs 0 0 Q (F0 m 18 ls []) := by
      intro n
      induction n with
      | zero =>
        intro _ _ _ _ _ _ hf
        cases hf
      | succ n ih_4 =>
        intro x_2 S_3 o_7 H locs ls hf hP hD hS hl kx_5 kr_6
        obtain ⟨q, hf, hc_8⟩ := sm_bnd hf
        have hf : fX0_findRow_k1_18 a1 a2 a3 x_2 S_3 = some q := hf
        unfold fX0_findRow_k1_18 at hf
        refine lv_iload hx hb dX0_findRow_18 (lv_at hl 4 rfl) ?_
        refine lv_aload_n hx hb dX0_findRow_20 rfl (lv_at hl 0 rfl) ?_
        refine va_get (D := (g.1, g.2.1)) (ci := 0) (v := .ref (ad 1)) (C := RX0) (T := TX0) (N := 20) hx hb hts in_X0 hown hK hP 0 rfl rfl 0 (by decide) (hts _ q269) (fun _ h9 => h9) rfl dX0_findRow_21 ?_
        refine va_getN (D := (g.1, g.2.1)) (ci := 1) (v := .int (S_3.2.2.2.2.1.1 7)) (C := RX1) (T := TX1) (N := 9) hx hb hts in_X1 hown hK hP 1 rfl rfl 7 (by decide) (va_Nw.use rfl (hN _ q124 rfl)) (fun _ h9 => h9) rfl dX0_findRow_24 ?_
        refine lv_icmp_ge (tgt := 72) hx hb dX0_findRow_27 (by decide) (fun c_12 => ?_) (fun c_12 => ?_)
        · have hf := (if_pos c_12).symm.trans hf
          cases hf
          exact kx_5 _ _ _ _ _ (Option.some.inj hc_8).symm hP hD hS (lv_sub hl [0, 1, 2, 3, 4] rfl)
        · have hf := (if_neg c_12).symm.trans hf
          refine lv_iload_n hx hb dX0_findRow_30 rfl (lv_at hl 3 rfl) ?_
          refine lv_iload hx hb dX0_findRow_31 (lv_at hl 4 rfl) ?_
          refine lv_ishr hx hb dX0_findRow_33 ?_
          refine lv_iconst (v := 1) hx hb dX0_findRow_34 (by decide) ?_
          refine lv_iand hx hb dX0_findRow_35 ?_
          refine lv_if_ne (tgt := 66) hx hb dX0_findRow_36 (by decide) (fun c_13 => ?_) (fun c_13 => ?_)
          · have hf := (if_neg c_13).symm.trans hf
            refine lv_iinc (v := x_2 + 1) (lv' := [(4, .int (x_2 + 1)), (0, .ref (ad 0)), (1, .int a1), (2, .int a2), (3, .int a3)]) hx hb dX0_findRow_66 hl (k := 4) rfl rfl (by decide) rfl (fun ls hl => ?_)
            refine lv_goto (tgt := 18) hx hb dX0_findRow_69 (by decide) ?_
            cases hf
            exact ih_4 _ _ _ _ _ _ hc_8 hP hD hS (lv_sub hl [1, 2, 3, 4, 0] rfl) kx_5 kr_6
          · have hf := (if_pos c_13).symm.trans hf
            refine lv_aload_n hx hb dX0_findRow_39 rfl (lv_at hl 0 rfl) ?_
            refine va_get (D := (g.1, g.2.1)) (ci := 0) (v := .ref (ad 18)) (C := RX0) (T := TX0) (N := 20) hx hb hts in_X0 hown hK hP 0 rfl rfl 16 (by decide) (hts _ q288) (fun _ h9 => h9) rfl dX0_findRow_40 ?_
            refine lv_iload_n hx hb dX0_findRow_43 rfl (lv_at hl 1 rfl) ?_
            refine lv_iload hx hb dX0_findRow_44 (lv_at hl 4 rfl) ?_
            obtain ⟨hg, hf⟩ := sm_gd_e hf
            refine va_iast (i := a1) (x := x_2) hx hb hK hP hD hS 18 0 rfl rfl (sm_in hg) dX0_findRow_46 (fun H locs hP hD hS => ?_)
            obtain ⟨S_14, eS_14, hf⟩ := sm_lt_e hf
            have hP : PP g (WX g ad S_14) H := by rw [eS_14]; exact pxr16 hP
            have hD : va_D (AX ad) (WX g ad S_14) := by rw [eS_14]; exact dxr16 hD
            refine lv_aload_n hx hb dX0_findRow_47 rfl (lv_at hl 0 rfl) ?_
            refine lv_iload_n hx hb dX0_findRow_48 rfl (lv_at hl 1 rfl) ?_
            refine lv_iconst (v := 1) hx hb dX0_findRow_49 (by decide) ?_
            refine lv_iadd hx hb dX0_findRow_50 ?_
            refine lv_iload_n hx hb dX0_findRow_51 rfl (lv_at hl 2 rfl) ?_
            refine lv_iload_n hx hb dX0_findRow_52 rfl (lv_at hl 3 rfl) ?_
            refine lv_iconst (v := 1) hx hb dX0_findRow_53 (by decide) ?_
            refine lv_iload hx hb dX0_findRow_54 (lv_at hl 4 rfl) ?_
            refine lv_ishl hx hb dX0_findRow_56 ?_
            refine lv_ior hx hb dX0_findRow_57 ?_
            obtain ⟨S_15, r_17, h_16, hf⟩ := sm_b2_e hf
            refine va_calli (va_runV (As := [.int (a1 + 1), .int a2, .int (a3 ||| (1 <<< (x_2 &&& 31)))]) (rest := []) ⟨hx, hb, hml, hown, hts⟩ (wX0_findRow_k0 l g ad S_14 (a1 + 1) a2 (a3 ||| (1 <<< (x_2 &&& 31))) S_15 r_17 h_16) (cwV 3 hts (lw_V q793 q795 qs21 q60 q796) rfl rfl rfl (by decide +kernel) ⟨Nat.le_of_ble_eq_true rfl, Nat.le_of_ble_eq_true rfl⟩) (sm_pe hE hP hD (va_recv hK hP (ci := 0) (q0 := 0) rfl rfl)) rfl rfl hl.1 rfl (lv_room (Nat.le_of_ble_eq_true rfl)) dX0_findRow_58 ⟨Nat.le_of_ble_eq_true rfl, Nat.le_of_ble_eq_true rfl⟩) hS (fun _ _ h => h) (fun _ h => h) (fun r_19 u t H locs ht hvm er_18 hB hz hk hS => ?_)
            have er_18 := er_18.symm
            subst er_18
            obtain ⟨hP, hD⟩ := hB
            rw [ht] at hP
            refine lv_if_eq (tgt := 66) hx hb dX0_findRow_61 (by decide) (fun c_20 => ?_) (fun c_20 => ?_)
            · have hf := (if_pos c_20).symm.trans hf
              refine lv_iinc (v := x_2 + 1) (lv' := [(4, .int (x_2 + 1)), (0, .ref (ad 0)), (1, .int a1), (2, .int a2), (3, .int a3)]) hx hb dX0_findRow_66 hl (k := 4) rfl rfl (by decide) rfl (fun ls hl => ?_)
              refine lv_goto (tgt := 18) hx hb dX0_findRow_69 (by decide) ?_
              cases hf
              exact ih_4 _ _ _ _ _ _ hc_8 hP hD hS (lv_sub hl [1, 2, 3, 4, 0] rfl) kx_5 kr_6
            · have hf := (if_neg c_20).symm.trans hf
              refine lv_iconst (v := 1) hx hb dX0_findRow_64 (by decide) ?_
              cases hf
              have hf := kr_6 _ (Option.some.inj hc_8).symm
              rw [← hQ]
              have hf := Prod.mk.inj hf
              exact W.zret (v := 1) hx hb hr rfl (fun t ht hW => ⟨⟨_, (), rfl, hf.2, by rw [ht, ← hf.1]; exact hP, by rw [← hf.1]; exact hD⟩, hS.F ht⟩) hS.2.2 dX0_findRow_65
    obtain ⟨o_21, ho, hf⟩ := sm_r_e hf
    refine L_9 FU 0 S o_21 s.heap [] ls ho hP hD hS (lv_sub hl [1, 2, 3, 4, 0] rfl) ?_ ?_
    · intro x_22 S_23 H locs ls eo hP hD hS hl
      subst eo
      dsimp only [Sum.elim_inl, sm_u2] at hf
      refine lv_iconst (v := 0) hx hb dX0_findRow_72 (by decide) ?_
      have hf := Option.some.inj hf
      rw [← hQ]
      have hf := Prod.mk.inj hf
      exact W.zret (v := 0) hx hb hr rfl (fun t ht hW => ⟨⟨_, (), rfl, hf.2, by rw [ht, ← hf.1]; exact hP, by rw [← hf.1]; exact hD⟩, hS.F ht⟩) hS.2.2 dX0_findRow_73
    · intro rv_24 eo
      subst eo
      have hf : some rv_24 = _ := hf
      have hf := Option.some.inj hf
      exact hf
  · have hf := (if_pos c_1).symm.trans hf
    refine lv_aload_n hx hb dX0_findRow_5 rfl (lv_at hl 0 rfl) ?_
    refine lv_aload_n hx hb dX0_findRow_6 rfl (lv_at hl 0 rfl) ?_
    refine va_get (D := (g.1, g.2.1)) (ci := 0) (v := .ref (ad 18)) (C := RX0) (T := TX0) (N := 20) hx hb hts in_X0 hown hK hP 0 rfl rfl 16 (by decide) (hts _ q288) (fun _ h9 => h9) rfl dX0_findRow_7 ?_
    refine lv_iload_n hx hb dX0_findRow_10 rfl (lv_at hl 2 rfl) ?_
    obtain ⟨r_25, h_26, hf⟩ := sm_b1_e hf
    refine vp_callSi (W.runV (As := [.ref (ad 18), .int a2]) (rest := []) ⟨hx, hb, hml, hown, hts⟩ (wX0_makes l g ad S a2 r_25 h_26) (cwV 2 hts (lw_V q785 q787 qs20 q60 q788) rfl rfl rfl (by decide +kernel) ⟨Nat.le_of_ble_eq_true rfl, Nat.le_of_ble_eq_true rfl⟩) (sm_pv hE hP (va_recv hK hP (ci := 0) (q0 := 0) rfl rfl)) rfl rfl hl.1 rfl (lv_room (Nat.le_of_ble_eq_true rfl)) dX0_findRow_11 ⟨Nat.le_of_ble_eq_true rfl, Nat.le_of_ble_eq_true rfl⟩) (fun r_28 er_27 => ?_)
    have er_27 := er_27.symm
    subst er_27
    obtain ⟨hg, hf⟩ := sm_gd_e hf
    have hf := Option.some.inj hf
    rw [← hQ]
    have hf := Prod.mk.inj hf
    exact W.zret (v := r_25) hx hb hr (sm_bz_nar hg) (fun t ht hW => ⟨⟨_, (), rfl, hf.2, by rw [ht, ← hf.1]; exact hP, by rw [← hf.1]; exact hD⟩, hS.F ht⟩) hS.2.2 dX0_findRow_14
abbrev rX0_findRow_k2 : Room := { frames := 3, cells := 0, slots := 0, locals := 72 }
set_option maxHeartbeats 4000000 in
theorem wX0_findRow_k2 (l : Launch) (g : GG) (ad : Nat → Nat) (S : XS) (a1 : Int32) (a2 : Int32) (a3 : Int32) (Sf : XS) (rf : Int32) (hf : fX0_findRow_k2 S a1 a2 a3 = some (Sf, rf)) : Met l yX0_findRow (ws_ yX0_findRow cX0_findRow 5 (some .boolean)) rX0_findRow_k2 (va_Pc [.ref (ad 0), .int a1, .int a2, .int a3] (fun Ux => PP g (WX g ad S) Ux.heap ∧ EV g Ux ∧ va_D (AX ad) (WX g ad S))) (va_Qi (fun y (_ : Unit) => y = rf) (fun _ t => PP g (WX g ad Sf) t.heap ∧ va_D (AX ad) (WX g ad Sf)) (AX ad)) 0 0 (AX ad) := by
  refine sm_st (by decide) ?_
  intro p e s m args below meth c hx hb hr hlocks hml hown hnm hts hv
  obtain ⟨hargs, hP, hE, hD⟩ := hv
  obtain ⟨hK, hN⟩ := id hE
  have hS : va_S (AX ad) s.heap s.heap [] := va_S.rf
  have hown : s.vm.findClass RX0 = some m.cls := hown
  refine sm_en _ (Nat.le_of_ble_eq_true rfl) hargs (fun ls hl => ?_)
  have hl : lv_has ls 5 [(0, .ref (ad 0)), (1, .int a1), (2, .int a2), (3, .int a3)] := hl
  generalize hQ : MQ below _ args s _ _ _ = Q
  unfold fX0_findRow_k2 at hf
  refine lv_iload_n hx hb dX0_findRow_0 rfl (lv_at hl 1 rfl) ?_
  refine lv_iload_n hx hb dX0_findRow_1 rfl (lv_at hl 2 rfl) ?_
  refine lv_icmp_ne (tgt := 15) hx hb dX0_findRow_2 (by decide) (fun c_1 => ?_) (fun c_1 => ?_)
  · have hf := (if_neg c_1).symm.trans hf
    refine lv_iconst (v := 0) hx hb dX0_findRow_15 (by decide) ?_
    refine lv_istore (lv' := [(4, .int 0), (0, .ref (ad 0)), (1, .int a1), (2, .int a2), (3, .int a3)]) hx hb dX0_findRow_16 hl (by decide) rfl (fun ls hl => ?_)
    have L_9 : ∀ (n : Nat) (x_2 : Int32) (S_3 : XS) (o_7 : ((Int32 × XS) ⊕ (XS × Int32))) (H : Heap) (locs : List Loc) (ls : Array Slot), sm_lp (fun q => fX0_findRow_k2_18 a1 a2 a3 q.1 q.2) n (x_2, S_3) = some o_7 → PP g (WX g ad S_3) H → va_D (AX ad) (WX g ad S_3) → va_S (AX ad) s.heap H locs → lv_has ls 5 [(0, .ref (ad 0)), (1, .int a1), (2, .int a2), (3, .int a3), (4, .int x_2)] → (∀ (x_2 : Int32) (S_3 : XS) (H : Heap) (locs : List Loc) (ls : Array Slot), o_7 = Sum.inl (x_2, S_3) → PP g (WX g ad S_3) H → va_D (AX ad) (WX g ad S_3) → va_S (AX ad) s.heap H locs → lv_has ls 5 [(0, .ref (ad 0)), (1, .int a1), (2, .int a2), (3, .int a3), (4, .int x_2)] → W p l e rX0_findRow_k2 s m args below meth c H locs 0 0 Q (F0 m 72 ls [])) → (∀ rv : (XS × Int32), o_7 = Sum.inr rv → rv = (Sf, rf)) → W p l e rX0_findRow_k2 s m args below meth c H locs 0 0 Q (F0 m 18 ls []) := by
      intro n
      induction n with
      | zero =>
        intro _ _ _ _ _ _ hf
        cases hf
      | succ n ih_4 =>
        intro x_2 S_3 o_7 H locs ls hf hP hD hS hl kx_5 kr_6
        obtain ⟨q, hf, hc_8⟩ := sm_bnd hf
        have hf : fX0_findRow_k2_18 a1 a2 a3 x_2 S_3 = some q := hf
        unfold fX0_findRow_k2_18 at hf
        refine lv_iload hx hb dX0_findRow_18 (lv_at hl 4 rfl) ?_
        refine lv_aload_n hx hb dX0_findRow_20 rfl (lv_at hl 0 rfl) ?_
        refine va_get (D := (g.1, g.2.1)) (ci := 0) (v := .ref (ad 1)) (C := RX0) (T := TX0) (N := 20) hx hb hts in_X0 hown hK hP 0 rfl rfl 0 (by decide) (hts _ q269) (fun _ h9 => h9) rfl dX0_findRow_21 ?_
        refine va_getN (D := (g.1, g.2.1)) (ci := 1) (v := .int (S_3.2.2.2.2.1.1 7)) (C := RX1) (T := TX1) (N := 9) hx hb hts in_X1 hown hK hP 1 rfl rfl 7 (by decide) (va_Nw.use rfl (hN _ q124 rfl)) (fun _ h9 => h9) rfl dX0_findRow_24 ?_
        refine lv_icmp_ge (tgt := 72) hx hb dX0_findRow_27 (by decide) (fun c_12 => ?_) (fun c_12 => ?_)
        · have hf := (if_pos c_12).symm.trans hf
          cases hf
          exact kx_5 _ _ _ _ _ (Option.some.inj hc_8).symm hP hD hS (lv_sub hl [0, 1, 2, 3, 4] rfl)
        · have hf := (if_neg c_12).symm.trans hf
          refine lv_iload_n hx hb dX0_findRow_30 rfl (lv_at hl 3 rfl) ?_
          refine lv_iload hx hb dX0_findRow_31 (lv_at hl 4 rfl) ?_
          refine lv_ishr hx hb dX0_findRow_33 ?_
          refine lv_iconst (v := 1) hx hb dX0_findRow_34 (by decide) ?_
          refine lv_iand hx hb dX0_findRow_35 ?_
          refine lv_if_ne (tgt := 66) hx hb dX0_findRow_36 (by decide) (fun c_13 => ?_) (fun c_13 => ?_)
          · have hf := (if_neg c_13).symm.trans hf
            refine lv_iinc (v := x_2 + 1) (lv' := [(4, .int (x_2 + 1)), (0, .ref (ad 0)), (1, .int a1), (2, .int a2), (3, .int a3)]) hx hb dX0_findRow_66 hl (k := 4) rfl rfl (by decide) rfl (fun ls hl => ?_)
            refine lv_goto (tgt := 18) hx hb dX0_findRow_69 (by decide) ?_
            cases hf
            exact ih_4 _ _ _ _ _ _ hc_8 hP hD hS (lv_sub hl [1, 2, 3, 4, 0] rfl) kx_5 kr_6
          · have hf := (if_pos c_13).symm.trans hf
            refine lv_aload_n hx hb dX0_findRow_39 rfl (lv_at hl 0 rfl) ?_
            refine va_get (D := (g.1, g.2.1)) (ci := 0) (v := .ref (ad 18)) (C := RX0) (T := TX0) (N := 20) hx hb hts in_X0 hown hK hP 0 rfl rfl 16 (by decide) (hts _ q288) (fun _ h9 => h9) rfl dX0_findRow_40 ?_
            refine lv_iload_n hx hb dX0_findRow_43 rfl (lv_at hl 1 rfl) ?_
            refine lv_iload hx hb dX0_findRow_44 (lv_at hl 4 rfl) ?_
            obtain ⟨hg, hf⟩ := sm_gd_e hf
            refine va_iast (i := a1) (x := x_2) hx hb hK hP hD hS 18 0 rfl rfl (sm_in hg) dX0_findRow_46 (fun H locs hP hD hS => ?_)
            obtain ⟨S_14, eS_14, hf⟩ := sm_lt_e hf
            have hP : PP g (WX g ad S_14) H := by rw [eS_14]; exact pxr16 hP
            have hD : va_D (AX ad) (WX g ad S_14) := by rw [eS_14]; exact dxr16 hD
            refine lv_aload_n hx hb dX0_findRow_47 rfl (lv_at hl 0 rfl) ?_
            refine lv_iload_n hx hb dX0_findRow_48 rfl (lv_at hl 1 rfl) ?_
            refine lv_iconst (v := 1) hx hb dX0_findRow_49 (by decide) ?_
            refine lv_iadd hx hb dX0_findRow_50 ?_
            refine lv_iload_n hx hb dX0_findRow_51 rfl (lv_at hl 2 rfl) ?_
            refine lv_iload_n hx hb dX0_findRow_52 rfl (lv_at hl 3 rfl) ?_
            refine lv_iconst (v := 1) hx hb dX0_findRow_53 (by decide) ?_
            refine lv_iload hx hb dX0_findRow_54 (lv_at hl 4 rfl) ?_
            refine lv_ishl hx hb dX0_findRow_56 ?_
            refine lv_ior hx hb dX0_findRow_57 ?_
            obtain ⟨S_15, r_17, h_16, hf⟩ := sm_b2_e hf
            refine va_calli (va_runV (As := [.int (a1 + 1), .int a2, .int (a3 ||| (1 <<< (x_2 &&& 31)))]) (rest := []) ⟨hx, hb, hml, hown, hts⟩ (wX0_findRow_k1 l g ad S_14 (a1 + 1) a2 (a3 ||| (1 <<< (x_2 &&& 31))) S_15 r_17 h_16) (cwV 3 hts (lw_V q793 q795 qs21 q60 q796) rfl rfl rfl (by decide +kernel) ⟨Nat.le_of_ble_eq_true rfl, Nat.le_of_ble_eq_true rfl⟩) (sm_pe hE hP hD (va_recv hK hP (ci := 0) (q0 := 0) rfl rfl)) rfl rfl hl.1 rfl (lv_room (Nat.le_of_ble_eq_true rfl)) dX0_findRow_58 ⟨Nat.le_of_ble_eq_true rfl, Nat.le_of_ble_eq_true rfl⟩) hS (fun _ _ h => h) (fun _ h => h) (fun r_19 u t H locs ht hvm er_18 hB hz hk hS => ?_)
            have er_18 := er_18.symm
            subst er_18
            obtain ⟨hP, hD⟩ := hB
            rw [ht] at hP
            refine lv_if_eq (tgt := 66) hx hb dX0_findRow_61 (by decide) (fun c_20 => ?_) (fun c_20 => ?_)
            · have hf := (if_pos c_20).symm.trans hf
              refine lv_iinc (v := x_2 + 1) (lv' := [(4, .int (x_2 + 1)), (0, .ref (ad 0)), (1, .int a1), (2, .int a2), (3, .int a3)]) hx hb dX0_findRow_66 hl (k := 4) rfl rfl (by decide) rfl (fun ls hl => ?_)
              refine lv_goto (tgt := 18) hx hb dX0_findRow_69 (by decide) ?_
              cases hf
              exact ih_4 _ _ _ _ _ _ hc_8 hP hD hS (lv_sub hl [1, 2, 3, 4, 0] rfl) kx_5 kr_6
            · have hf := (if_neg c_20).symm.trans hf
              refine lv_iconst (v := 1) hx hb dX0_findRow_64 (by decide) ?_
              cases hf
              have hf := kr_6 _ (Option.some.inj hc_8).symm
              rw [← hQ]
              have hf := Prod.mk.inj hf
              exact W.zret (v := 1) hx hb hr rfl (fun t ht hW => ⟨⟨_, (), rfl, hf.2, by rw [ht, ← hf.1]; exact hP, by rw [← hf.1]; exact hD⟩, hS.F ht⟩) hS.2.2 dX0_findRow_65
    obtain ⟨o_21, ho, hf⟩ := sm_r_e hf
    refine L_9 FU 0 S o_21 s.heap [] ls ho hP hD hS (lv_sub hl [1, 2, 3, 4, 0] rfl) ?_ ?_
    · intro x_22 S_23 H locs ls eo hP hD hS hl
      subst eo
      dsimp only [Sum.elim_inl, sm_u2] at hf
      refine lv_iconst (v := 0) hx hb dX0_findRow_72 (by decide) ?_
      have hf := Option.some.inj hf
      rw [← hQ]
      have hf := Prod.mk.inj hf
      exact W.zret (v := 0) hx hb hr rfl (fun t ht hW => ⟨⟨_, (), rfl, hf.2, by rw [ht, ← hf.1]; exact hP, by rw [← hf.1]; exact hD⟩, hS.F ht⟩) hS.2.2 dX0_findRow_73
    · intro rv_24 eo
      subst eo
      have hf : some rv_24 = _ := hf
      have hf := Option.some.inj hf
      exact hf
  · have hf := (if_pos c_1).symm.trans hf
    refine lv_aload_n hx hb dX0_findRow_5 rfl (lv_at hl 0 rfl) ?_
    refine lv_aload_n hx hb dX0_findRow_6 rfl (lv_at hl 0 rfl) ?_
    refine va_get (D := (g.1, g.2.1)) (ci := 0) (v := .ref (ad 18)) (C := RX0) (T := TX0) (N := 20) hx hb hts in_X0 hown hK hP 0 rfl rfl 16 (by decide) (hts _ q288) (fun _ h9 => h9) rfl dX0_findRow_7 ?_
    refine lv_iload_n hx hb dX0_findRow_10 rfl (lv_at hl 2 rfl) ?_
    obtain ⟨r_25, h_26, hf⟩ := sm_b1_e hf
    refine vp_callSi (W.runV (As := [.ref (ad 18), .int a2]) (rest := []) ⟨hx, hb, hml, hown, hts⟩ (wX0_makes l g ad S a2 r_25 h_26) (cwV 2 hts (lw_V q785 q787 qs20 q60 q788) rfl rfl rfl (by decide +kernel) ⟨Nat.le_of_ble_eq_true rfl, Nat.le_of_ble_eq_true rfl⟩) (sm_pv hE hP (va_recv hK hP (ci := 0) (q0 := 0) rfl rfl)) rfl rfl hl.1 rfl (lv_room (Nat.le_of_ble_eq_true rfl)) dX0_findRow_11 ⟨Nat.le_of_ble_eq_true rfl, Nat.le_of_ble_eq_true rfl⟩) (fun r_28 er_27 => ?_)
    have er_27 := er_27.symm
    subst er_27
    obtain ⟨hg, hf⟩ := sm_gd_e hf
    have hf := Option.some.inj hf
    rw [← hQ]
    have hf := Prod.mk.inj hf
    exact W.zret (v := r_25) hx hb hr (sm_bz_nar hg) (fun t ht hW => ⟨⟨_, (), rfl, hf.2, by rw [ht, ← hf.1]; exact hP, by rw [← hf.1]; exact hD⟩, hS.F ht⟩) hS.2.2 dX0_findRow_14
abbrev rX0_findRow_k3 : Room := { frames := 4, cells := 0, slots := 0, locals := 96 }
set_option maxHeartbeats 4000000 in
theorem wX0_findRow_k3 (l : Launch) (g : GG) (ad : Nat → Nat) (S : XS) (a1 : Int32) (a2 : Int32) (a3 : Int32) (Sf : XS) (rf : Int32) (hf : fX0_findRow_k3 S a1 a2 a3 = some (Sf, rf)) : Met l yX0_findRow (ws_ yX0_findRow cX0_findRow 5 (some .boolean)) rX0_findRow_k3 (va_Pc [.ref (ad 0), .int a1, .int a2, .int a3] (fun Ux => PP g (WX g ad S) Ux.heap ∧ EV g Ux ∧ va_D (AX ad) (WX g ad S))) (va_Qi (fun y (_ : Unit) => y = rf) (fun _ t => PP g (WX g ad Sf) t.heap ∧ va_D (AX ad) (WX g ad Sf)) (AX ad)) 0 0 (AX ad) := by
  refine sm_st (by decide) ?_
  intro p e s m args below meth c hx hb hr hlocks hml hown hnm hts hv
  obtain ⟨hargs, hP, hE, hD⟩ := hv
  obtain ⟨hK, hN⟩ := id hE
  have hS : va_S (AX ad) s.heap s.heap [] := va_S.rf
  have hown : s.vm.findClass RX0 = some m.cls := hown
  refine sm_en _ (Nat.le_of_ble_eq_true rfl) hargs (fun ls hl => ?_)
  have hl : lv_has ls 5 [(0, .ref (ad 0)), (1, .int a1), (2, .int a2), (3, .int a3)] := hl
  generalize hQ : MQ below _ args s _ _ _ = Q
  unfold fX0_findRow_k3 at hf
  refine lv_iload_n hx hb dX0_findRow_0 rfl (lv_at hl 1 rfl) ?_
  refine lv_iload_n hx hb dX0_findRow_1 rfl (lv_at hl 2 rfl) ?_
  refine lv_icmp_ne (tgt := 15) hx hb dX0_findRow_2 (by decide) (fun c_1 => ?_) (fun c_1 => ?_)
  · have hf := (if_neg c_1).symm.trans hf
    refine lv_iconst (v := 0) hx hb dX0_findRow_15 (by decide) ?_
    refine lv_istore (lv' := [(4, .int 0), (0, .ref (ad 0)), (1, .int a1), (2, .int a2), (3, .int a3)]) hx hb dX0_findRow_16 hl (by decide) rfl (fun ls hl => ?_)
    have L_9 : ∀ (n : Nat) (x_2 : Int32) (S_3 : XS) (o_7 : ((Int32 × XS) ⊕ (XS × Int32))) (H : Heap) (locs : List Loc) (ls : Array Slot), sm_lp (fun q => fX0_findRow_k3_18 a1 a2 a3 q.1 q.2) n (x_2, S_3) = some o_7 → PP g (WX g ad S_3) H → va_D (AX ad) (WX g ad S_3) → va_S (AX ad) s.heap H locs → lv_has ls 5 [(0, .ref (ad 0)), (1, .int a1), (2, .int a2), (3, .int a3), (4, .int x_2)] → (∀ (x_2 : Int32) (S_3 : XS) (H : Heap) (locs : List Loc) (ls : Array Slot), o_7 = Sum.inl (x_2, S_3) → PP g (WX g ad S_3) H → va_D (AX ad) (WX g ad S_3) → va_S (AX ad) s.heap H locs → lv_has ls 5 [(0, .ref (ad 0)), (1, .int a1), (2, .int a2), (3, .int a3), (4, .int x_2)] → W p l e rX0_findRow_k3 s m args below meth c H locs 0 0 Q (F0 m 72 ls [])) → (∀ rv : (XS × Int32), o_7 = Sum.inr rv → rv = (Sf, rf)) → W p l e rX0_findRow_k3 s m args below meth c H locs 0 0 Q (F0 m 18 ls []) := by
      intro n
      induction n with
      | zero =>
        intro _ _ _ _ _ _ hf
        cases hf
      | succ n ih_4 =>
        intro x_2 S_3 o_7 H locs ls hf hP hD hS hl kx_5 kr_6
        obtain ⟨q, hf, hc_8⟩ := sm_bnd hf
        have hf : fX0_findRow_k3_18 a1 a2 a3 x_2 S_3 = some q := hf
        unfold fX0_findRow_k3_18 at hf
        refine lv_iload hx hb dX0_findRow_18 (lv_at hl 4 rfl) ?_
        refine lv_aload_n hx hb dX0_findRow_20 rfl (lv_at hl 0 rfl) ?_
        refine va_get (D := (g.1, g.2.1)) (ci := 0) (v := .ref (ad 1)) (C := RX0) (T := TX0) (N := 20) hx hb hts in_X0 hown hK hP 0 rfl rfl 0 (by decide) (hts _ q269) (fun _ h9 => h9) rfl dX0_findRow_21 ?_
        refine va_getN (D := (g.1, g.2.1)) (ci := 1) (v := .int (S_3.2.2.2.2.1.1 7)) (C := RX1) (T := TX1) (N := 9) hx hb hts in_X1 hown hK hP 1 rfl rfl 7 (by decide) (va_Nw.use rfl (hN _ q124 rfl)) (fun _ h9 => h9) rfl dX0_findRow_24 ?_
        refine lv_icmp_ge (tgt := 72) hx hb dX0_findRow_27 (by decide) (fun c_12 => ?_) (fun c_12 => ?_)
        · have hf := (if_pos c_12).symm.trans hf
          cases hf
          exact kx_5 _ _ _ _ _ (Option.some.inj hc_8).symm hP hD hS (lv_sub hl [0, 1, 2, 3, 4] rfl)
        · have hf := (if_neg c_12).symm.trans hf
          refine lv_iload_n hx hb dX0_findRow_30 rfl (lv_at hl 3 rfl) ?_
          refine lv_iload hx hb dX0_findRow_31 (lv_at hl 4 rfl) ?_
          refine lv_ishr hx hb dX0_findRow_33 ?_
          refine lv_iconst (v := 1) hx hb dX0_findRow_34 (by decide) ?_
          refine lv_iand hx hb dX0_findRow_35 ?_
          refine lv_if_ne (tgt := 66) hx hb dX0_findRow_36 (by decide) (fun c_13 => ?_) (fun c_13 => ?_)
          · have hf := (if_neg c_13).symm.trans hf
            refine lv_iinc (v := x_2 + 1) (lv' := [(4, .int (x_2 + 1)), (0, .ref (ad 0)), (1, .int a1), (2, .int a2), (3, .int a3)]) hx hb dX0_findRow_66 hl (k := 4) rfl rfl (by decide) rfl (fun ls hl => ?_)
            refine lv_goto (tgt := 18) hx hb dX0_findRow_69 (by decide) ?_
            cases hf
            exact ih_4 _ _ _ _ _ _ hc_8 hP hD hS (lv_sub hl [1, 2, 3, 4, 0] rfl) kx_5 kr_6
          · have hf := (if_pos c_13).symm.trans hf
            refine lv_aload_n hx hb dX0_findRow_39 rfl (lv_at hl 0 rfl) ?_
            refine va_get (D := (g.1, g.2.1)) (ci := 0) (v := .ref (ad 18)) (C := RX0) (T := TX0) (N := 20) hx hb hts in_X0 hown hK hP 0 rfl rfl 16 (by decide) (hts _ q288) (fun _ h9 => h9) rfl dX0_findRow_40 ?_
            refine lv_iload_n hx hb dX0_findRow_43 rfl (lv_at hl 1 rfl) ?_
            refine lv_iload hx hb dX0_findRow_44 (lv_at hl 4 rfl) ?_
            obtain ⟨hg, hf⟩ := sm_gd_e hf
            refine va_iast (i := a1) (x := x_2) hx hb hK hP hD hS 18 0 rfl rfl (sm_in hg) dX0_findRow_46 (fun H locs hP hD hS => ?_)
            obtain ⟨S_14, eS_14, hf⟩ := sm_lt_e hf
            have hP : PP g (WX g ad S_14) H := by rw [eS_14]; exact pxr16 hP
            have hD : va_D (AX ad) (WX g ad S_14) := by rw [eS_14]; exact dxr16 hD
            refine lv_aload_n hx hb dX0_findRow_47 rfl (lv_at hl 0 rfl) ?_
            refine lv_iload_n hx hb dX0_findRow_48 rfl (lv_at hl 1 rfl) ?_
            refine lv_iconst (v := 1) hx hb dX0_findRow_49 (by decide) ?_
            refine lv_iadd hx hb dX0_findRow_50 ?_
            refine lv_iload_n hx hb dX0_findRow_51 rfl (lv_at hl 2 rfl) ?_
            refine lv_iload_n hx hb dX0_findRow_52 rfl (lv_at hl 3 rfl) ?_
            refine lv_iconst (v := 1) hx hb dX0_findRow_53 (by decide) ?_
            refine lv_iload hx hb dX0_findRow_54 (lv_at hl 4 rfl) ?_
            refine lv_ishl hx hb dX0_findRow_56 ?_
            refine lv_ior hx hb dX0_findRow_57 ?_
            obtain ⟨S_15, r_17, h_16, hf⟩ := sm_b2_e hf
            refine va_calli (va_runV (As := [.int (a1 + 1), .int a2, .int (a3 ||| (1 <<< (x_2 &&& 31)))]) (rest := []) ⟨hx, hb, hml, hown, hts⟩ (wX0_findRow_k2 l g ad S_14 (a1 + 1) a2 (a3 ||| (1 <<< (x_2 &&& 31))) S_15 r_17 h_16) (cwV 3 hts (lw_V q793 q795 qs21 q60 q796) rfl rfl rfl (by decide +kernel) ⟨Nat.le_of_ble_eq_true rfl, Nat.le_of_ble_eq_true rfl⟩) (sm_pe hE hP hD (va_recv hK hP (ci := 0) (q0 := 0) rfl rfl)) rfl rfl hl.1 rfl (lv_room (Nat.le_of_ble_eq_true rfl)) dX0_findRow_58 ⟨Nat.le_of_ble_eq_true rfl, Nat.le_of_ble_eq_true rfl⟩) hS (fun _ _ h => h) (fun _ h => h) (fun r_19 u t H locs ht hvm er_18 hB hz hk hS => ?_)
            have er_18 := er_18.symm
            subst er_18
            obtain ⟨hP, hD⟩ := hB
            rw [ht] at hP
            refine lv_if_eq (tgt := 66) hx hb dX0_findRow_61 (by decide) (fun c_20 => ?_) (fun c_20 => ?_)
            · have hf := (if_pos c_20).symm.trans hf
              refine lv_iinc (v := x_2 + 1) (lv' := [(4, .int (x_2 + 1)), (0, .ref (ad 0)), (1, .int a1), (2, .int a2), (3, .int a3)]) hx hb dX0_findRow_66 hl (k := 4) rfl rfl (by decide) rfl (fun ls hl => ?_)
              refine lv_goto (tgt := 18) hx hb dX0_findRow_69 (by decide) ?_
              cases hf
              exact ih_4 _ _ _ _ _ _ hc_8 hP hD hS (lv_sub hl [1, 2, 3, 4, 0] rfl) kx_5 kr_6
            · have hf := (if_neg c_20).symm.trans hf
              refine lv_iconst (v := 1) hx hb dX0_findRow_64 (by decide) ?_
              cases hf
              have hf := kr_6 _ (Option.some.inj hc_8).symm
              rw [← hQ]
              have hf := Prod.mk.inj hf
              exact W.zret (v := 1) hx hb hr rfl (fun t ht hW => ⟨⟨_, (), rfl, hf.2, by rw [ht, ← hf.1]; exact hP, by rw [← hf.1]; exact hD⟩, hS.F ht⟩) hS.2.2 dX0_findRow_65
    obtain ⟨o_21, ho, hf⟩ := sm_r_e hf
    refine L_9 FU 0 S o_21 s.heap [] ls ho hP hD hS (lv_sub hl [1, 2, 3, 4, 0] rfl) ?_ ?_
    · intro x_22 S_23 H locs ls eo hP hD hS hl
      subst eo
      dsimp only [Sum.elim_inl, sm_u2] at hf
      refine lv_iconst (v := 0) hx hb dX0_findRow_72 (by decide) ?_
      have hf := Option.some.inj hf
      rw [← hQ]
      have hf := Prod.mk.inj hf
      exact W.zret (v := 0) hx hb hr rfl (fun t ht hW => ⟨⟨_, (), rfl, hf.2, by rw [ht, ← hf.1]; exact hP, by rw [← hf.1]; exact hD⟩, hS.F ht⟩) hS.2.2 dX0_findRow_73
    · intro rv_24 eo
      subst eo
      have hf : some rv_24 = _ := hf
      have hf := Option.some.inj hf
      exact hf
  · have hf := (if_pos c_1).symm.trans hf
    refine lv_aload_n hx hb dX0_findRow_5 rfl (lv_at hl 0 rfl) ?_
    refine lv_aload_n hx hb dX0_findRow_6 rfl (lv_at hl 0 rfl) ?_
    refine va_get (D := (g.1, g.2.1)) (ci := 0) (v := .ref (ad 18)) (C := RX0) (T := TX0) (N := 20) hx hb hts in_X0 hown hK hP 0 rfl rfl 16 (by decide) (hts _ q288) (fun _ h9 => h9) rfl dX0_findRow_7 ?_
    refine lv_iload_n hx hb dX0_findRow_10 rfl (lv_at hl 2 rfl) ?_
    obtain ⟨r_25, h_26, hf⟩ := sm_b1_e hf
    refine vp_callSi (W.runV (As := [.ref (ad 18), .int a2]) (rest := []) ⟨hx, hb, hml, hown, hts⟩ (wX0_makes l g ad S a2 r_25 h_26) (cwV 2 hts (lw_V q785 q787 qs20 q60 q788) rfl rfl rfl (by decide +kernel) ⟨Nat.le_of_ble_eq_true rfl, Nat.le_of_ble_eq_true rfl⟩) (sm_pv hE hP (va_recv hK hP (ci := 0) (q0 := 0) rfl rfl)) rfl rfl hl.1 rfl (lv_room (Nat.le_of_ble_eq_true rfl)) dX0_findRow_11 ⟨Nat.le_of_ble_eq_true rfl, Nat.le_of_ble_eq_true rfl⟩) (fun r_28 er_27 => ?_)
    have er_27 := er_27.symm
    subst er_27
    obtain ⟨hg, hf⟩ := sm_gd_e hf
    have hf := Option.some.inj hf
    rw [← hQ]
    have hf := Prod.mk.inj hf
    exact W.zret (v := r_25) hx hb hr (sm_bz_nar hg) (fun t ht hW => ⟨⟨_, (), rfl, hf.2, by rw [ht, ← hf.1]; exact hP, by rw [← hf.1]; exact hD⟩, hS.F ht⟩) hS.2.2 dX0_findRow_14
abbrev rX0_findRow_k4 : Room := { frames := 5, cells := 0, slots := 0, locals := 120 }
set_option maxHeartbeats 4000000 in
theorem wX0_findRow_k4 (l : Launch) (g : GG) (ad : Nat → Nat) (S : XS) (a1 : Int32) (a2 : Int32) (a3 : Int32) (Sf : XS) (rf : Int32) (hf : fX0_findRow_k4 S a1 a2 a3 = some (Sf, rf)) : Met l yX0_findRow (ws_ yX0_findRow cX0_findRow 5 (some .boolean)) rX0_findRow_k4 (va_Pc [.ref (ad 0), .int a1, .int a2, .int a3] (fun Ux => PP g (WX g ad S) Ux.heap ∧ EV g Ux ∧ va_D (AX ad) (WX g ad S))) (va_Qi (fun y (_ : Unit) => y = rf) (fun _ t => PP g (WX g ad Sf) t.heap ∧ va_D (AX ad) (WX g ad Sf)) (AX ad)) 0 0 (AX ad) := by
  refine sm_st (by decide) ?_
  intro p e s m args below meth c hx hb hr hlocks hml hown hnm hts hv
  obtain ⟨hargs, hP, hE, hD⟩ := hv
  obtain ⟨hK, hN⟩ := id hE
  have hS : va_S (AX ad) s.heap s.heap [] := va_S.rf
  have hown : s.vm.findClass RX0 = some m.cls := hown
  refine sm_en _ (Nat.le_of_ble_eq_true rfl) hargs (fun ls hl => ?_)
  have hl : lv_has ls 5 [(0, .ref (ad 0)), (1, .int a1), (2, .int a2), (3, .int a3)] := hl
  generalize hQ : MQ below _ args s _ _ _ = Q
  unfold fX0_findRow_k4 at hf
  refine lv_iload_n hx hb dX0_findRow_0 rfl (lv_at hl 1 rfl) ?_
  refine lv_iload_n hx hb dX0_findRow_1 rfl (lv_at hl 2 rfl) ?_
  refine lv_icmp_ne (tgt := 15) hx hb dX0_findRow_2 (by decide) (fun c_1 => ?_) (fun c_1 => ?_)
  · have hf := (if_neg c_1).symm.trans hf
    refine lv_iconst (v := 0) hx hb dX0_findRow_15 (by decide) ?_
    refine lv_istore (lv' := [(4, .int 0), (0, .ref (ad 0)), (1, .int a1), (2, .int a2), (3, .int a3)]) hx hb dX0_findRow_16 hl (by decide) rfl (fun ls hl => ?_)
    have L_9 : ∀ (n : Nat) (x_2 : Int32) (S_3 : XS) (o_7 : ((Int32 × XS) ⊕ (XS × Int32))) (H : Heap) (locs : List Loc) (ls : Array Slot), sm_lp (fun q => fX0_findRow_k4_18 a1 a2 a3 q.1 q.2) n (x_2, S_3) = some o_7 → PP g (WX g ad S_3) H → va_D (AX ad) (WX g ad S_3) → va_S (AX ad) s.heap H locs → lv_has ls 5 [(0, .ref (ad 0)), (1, .int a1), (2, .int a2), (3, .int a3), (4, .int x_2)] → (∀ (x_2 : Int32) (S_3 : XS) (H : Heap) (locs : List Loc) (ls : Array Slot), o_7 = Sum.inl (x_2, S_3) → PP g (WX g ad S_3) H → va_D (AX ad) (WX g ad S_3) → va_S (AX ad) s.heap H locs → lv_has ls 5 [(0, .ref (ad 0)), (1, .int a1), (2, .int a2), (3, .int a3), (4, .int x_2)] → W p l e rX0_findRow_k4 s m args below meth c H locs 0 0 Q (F0 m 72 ls [])) → (∀ rv : (XS × Int32), o_7 = Sum.inr rv → rv = (Sf, rf)) → W p l e rX0_findRow_k4 s m args below meth c H locs 0 0 Q (F0 m 18 ls []) := by
      intro n
      induction n with
      | zero =>
        intro _ _ _ _ _ _ hf
        cases hf
      | succ n ih_4 =>
        intro x_2 S_3 o_7 H locs ls hf hP hD hS hl kx_5 kr_6
        obtain ⟨q, hf, hc_8⟩ := sm_bnd hf
        have hf : fX0_findRow_k4_18 a1 a2 a3 x_2 S_3 = some q := hf
        unfold fX0_findRow_k4_18 at hf
        refine lv_iload hx hb dX0_findRow_18 (lv_at hl 4 rfl) ?_
        refine lv_aload_n hx hb dX0_findRow_20 rfl (lv_at hl 0 rfl) ?_
        refine va_get (D := (g.1, g.2.1)) (ci := 0) (v := .ref (ad 1)) (C := RX0) (T := TX0) (N := 20) hx hb hts in_X0 hown hK hP 0 rfl rfl 0 (by decide) (hts _ q269) (fun _ h9 => h9) rfl dX0_findRow_21 ?_
        refine va_getN (D := (g.1, g.2.1)) (ci := 1) (v := .int (S_3.2.2.2.2.1.1 7)) (C := RX1) (T := TX1) (N := 9) hx hb hts in_X1 hown hK hP 1 rfl rfl 7 (by decide) (va_Nw.use rfl (hN _ q124 rfl)) (fun _ h9 => h9) rfl dX0_findRow_24 ?_
        refine lv_icmp_ge (tgt := 72) hx hb dX0_findRow_27 (by decide) (fun c_12 => ?_) (fun c_12 => ?_)
        · have hf := (if_pos c_12).symm.trans hf
          cases hf
          exact kx_5 _ _ _ _ _ (Option.some.inj hc_8).symm hP hD hS (lv_sub hl [0, 1, 2, 3, 4] rfl)
        · have hf := (if_neg c_12).symm.trans hf
          refine lv_iload_n hx hb dX0_findRow_30 rfl (lv_at hl 3 rfl) ?_
          refine lv_iload hx hb dX0_findRow_31 (lv_at hl 4 rfl) ?_
          refine lv_ishr hx hb dX0_findRow_33 ?_
          refine lv_iconst (v := 1) hx hb dX0_findRow_34 (by decide) ?_
          refine lv_iand hx hb dX0_findRow_35 ?_
          refine lv_if_ne (tgt := 66) hx hb dX0_findRow_36 (by decide) (fun c_13 => ?_) (fun c_13 => ?_)
          · have hf := (if_neg c_13).symm.trans hf
            refine lv_iinc (v := x_2 + 1) (lv' := [(4, .int (x_2 + 1)), (0, .ref (ad 0)), (1, .int a1), (2, .int a2), (3, .int a3)]) hx hb dX0_findRow_66 hl (k := 4) rfl rfl (by decide) rfl (fun ls hl => ?_)
            refine lv_goto (tgt := 18) hx hb dX0_findRow_69 (by decide) ?_
            cases hf
            exact ih_4 _ _ _ _ _ _ hc_8 hP hD hS (lv_sub hl [1, 2, 3, 4, 0] rfl) kx_5 kr_6
          · have hf := (if_pos c_13).symm.trans hf
            refine lv_aload_n hx hb dX0_findRow_39 rfl (lv_at hl 0 rfl) ?_
            refine va_get (D := (g.1, g.2.1)) (ci := 0) (v := .ref (ad 18)) (C := RX0) (T := TX0) (N := 20) hx hb hts in_X0 hown hK hP 0 rfl rfl 16 (by decide) (hts _ q288) (fun _ h9 => h9) rfl dX0_findRow_40 ?_
            refine lv_iload_n hx hb dX0_findRow_43 rfl (lv_at hl 1 rfl) ?_
            refine lv_iload hx hb dX0_findRow_44 (lv_at hl 4 rfl) ?_
            obtain ⟨hg, hf⟩ := sm_gd_e hf
            refine va_iast (i := a1) (x := x_2) hx hb hK hP hD hS 18 0 rfl rfl (sm_in hg) dX0_findRow_46 (fun H locs hP hD hS => ?_)
            obtain ⟨S_14, eS_14, hf⟩ := sm_lt_e hf
            have hP : PP g (WX g ad S_14) H := by rw [eS_14]; exact pxr16 hP
            have hD : va_D (AX ad) (WX g ad S_14) := by rw [eS_14]; exact dxr16 hD
            refine lv_aload_n hx hb dX0_findRow_47 rfl (lv_at hl 0 rfl) ?_
            refine lv_iload_n hx hb dX0_findRow_48 rfl (lv_at hl 1 rfl) ?_
            refine lv_iconst (v := 1) hx hb dX0_findRow_49 (by decide) ?_
            refine lv_iadd hx hb dX0_findRow_50 ?_
            refine lv_iload_n hx hb dX0_findRow_51 rfl (lv_at hl 2 rfl) ?_
            refine lv_iload_n hx hb dX0_findRow_52 rfl (lv_at hl 3 rfl) ?_
            refine lv_iconst (v := 1) hx hb dX0_findRow_53 (by decide) ?_
            refine lv_iload hx hb dX0_findRow_54 (lv_at hl 4 rfl) ?_
            refine lv_ishl hx hb dX0_findRow_56 ?_
            refine lv_ior hx hb dX0_findRow_57 ?_
            obtain ⟨S_15, r_17, h_16, hf⟩ := sm_b2_e hf
            refine va_calli (va_runV (As := [.int (a1 + 1), .int a2, .int (a3 ||| (1 <<< (x_2 &&& 31)))]) (rest := []) ⟨hx, hb, hml, hown, hts⟩ (wX0_findRow_k3 l g ad S_14 (a1 + 1) a2 (a3 ||| (1 <<< (x_2 &&& 31))) S_15 r_17 h_16) (cwV 3 hts (lw_V q793 q795 qs21 q60 q796) rfl rfl rfl (by decide +kernel) ⟨Nat.le_of_ble_eq_true rfl, Nat.le_of_ble_eq_true rfl⟩) (sm_pe hE hP hD (va_recv hK hP (ci := 0) (q0 := 0) rfl rfl)) rfl rfl hl.1 rfl (lv_room (Nat.le_of_ble_eq_true rfl)) dX0_findRow_58 ⟨Nat.le_of_ble_eq_true rfl, Nat.le_of_ble_eq_true rfl⟩) hS (fun _ _ h => h) (fun _ h => h) (fun r_19 u t H locs ht hvm er_18 hB hz hk hS => ?_)
            have er_18 := er_18.symm
            subst er_18
            obtain ⟨hP, hD⟩ := hB
            rw [ht] at hP
            refine lv_if_eq (tgt := 66) hx hb dX0_findRow_61 (by decide) (fun c_20 => ?_) (fun c_20 => ?_)
            · have hf := (if_pos c_20).symm.trans hf
              refine lv_iinc (v := x_2 + 1) (lv' := [(4, .int (x_2 + 1)), (0, .ref (ad 0)), (1, .int a1), (2, .int a2), (3, .int a3)]) hx hb dX0_findRow_66 hl (k := 4) rfl rfl (by decide) rfl (fun ls hl => ?_)
              refine lv_goto (tgt := 18) hx hb dX0_findRow_69 (by decide) ?_
              cases hf
              exact ih_4 _ _ _ _ _ _ hc_8 hP hD hS (lv_sub hl [1, 2, 3, 4, 0] rfl) kx_5 kr_6
            · have hf := (if_neg c_20).symm.trans hf
              refine lv_iconst (v := 1) hx hb dX0_findRow_64 (by decide) ?_
              cases hf
              have hf := kr_6 _ (Option.some.inj hc_8).symm
              rw [← hQ]
              have hf := Prod.mk.inj hf
              exact W.zret (v := 1) hx hb hr rfl (fun t ht hW => ⟨⟨_, (), rfl, hf.2, by rw [ht, ← hf.1]; exact hP, by rw [← hf.1]; exact hD⟩, hS.F ht⟩) hS.2.2 dX0_findRow_65
    obtain ⟨o_21, ho, hf⟩ := sm_r_e hf
    refine L_9 FU 0 S o_21 s.heap [] ls ho hP hD hS (lv_sub hl [1, 2, 3, 4, 0] rfl) ?_ ?_
    · intro x_22 S_23 H locs ls eo hP hD hS hl
      subst eo
      dsimp only [Sum.elim_inl, sm_u2] at hf
      refine lv_iconst (v := 0) hx hb dX0_findRow_72 (by decide) ?_
      have hf := Option.some.inj hf
      rw [← hQ]
      have hf := Prod.mk.inj hf
      exact W.zret (v := 0) hx hb hr rfl (fun t ht hW => ⟨⟨_, (), rfl, hf.2, by rw [ht, ← hf.1]; exact hP, by rw [← hf.1]; exact hD⟩, hS.F ht⟩) hS.2.2 dX0_findRow_73
    · intro rv_24 eo
      subst eo
      have hf : some rv_24 = _ := hf
      have hf := Option.some.inj hf
      exact hf
  · have hf := (if_pos c_1).symm.trans hf
    refine lv_aload_n hx hb dX0_findRow_5 rfl (lv_at hl 0 rfl) ?_
    refine lv_aload_n hx hb dX0_findRow_6 rfl (lv_at hl 0 rfl) ?_
    refine va_get (D := (g.1, g.2.1)) (ci := 0) (v := .ref (ad 18)) (C := RX0) (T := TX0) (N := 20) hx hb hts in_X0 hown hK hP 0 rfl rfl 16 (by decide) (hts _ q288) (fun _ h9 => h9) rfl dX0_findRow_7 ?_
    refine lv_iload_n hx hb dX0_findRow_10 rfl (lv_at hl 2 rfl) ?_
    obtain ⟨r_25, h_26, hf⟩ := sm_b1_e hf
    refine vp_callSi (W.runV (As := [.ref (ad 18), .int a2]) (rest := []) ⟨hx, hb, hml, hown, hts⟩ (wX0_makes l g ad S a2 r_25 h_26) (cwV 2 hts (lw_V q785 q787 qs20 q60 q788) rfl rfl rfl (by decide +kernel) ⟨Nat.le_of_ble_eq_true rfl, Nat.le_of_ble_eq_true rfl⟩) (sm_pv hE hP (va_recv hK hP (ci := 0) (q0 := 0) rfl rfl)) rfl rfl hl.1 rfl (lv_room (Nat.le_of_ble_eq_true rfl)) dX0_findRow_11 ⟨Nat.le_of_ble_eq_true rfl, Nat.le_of_ble_eq_true rfl⟩) (fun r_28 er_27 => ?_)
    have er_27 := er_27.symm
    subst er_27
    obtain ⟨hg, hf⟩ := sm_gd_e hf
    have hf := Option.some.inj hf
    rw [← hQ]
    have hf := Prod.mk.inj hf
    exact W.zret (v := r_25) hx hb hr (sm_bz_nar hg) (fun t ht hW => ⟨⟨_, (), rfl, hf.2, by rw [ht, ← hf.1]; exact hP, by rw [← hf.1]; exact hD⟩, hS.F ht⟩) hS.2.2 dX0_findRow_14
abbrev rX0_findRow_k5 : Room := { frames := 6, cells := 0, slots := 0, locals := 144 }
set_option maxHeartbeats 4000000 in
theorem wX0_findRow_k5 (l : Launch) (g : GG) (ad : Nat → Nat) (S : XS) (a1 : Int32) (a2 : Int32) (a3 : Int32) (Sf : XS) (rf : Int32) (hf : fX0_findRow_k5 S a1 a2 a3 = some (Sf, rf)) : Met l yX0_findRow (ws_ yX0_findRow cX0_findRow 5 (some .boolean)) rX0_findRow_k5 (va_Pc [.ref (ad 0), .int a1, .int a2, .int a3] (fun Ux => PP g (WX g ad S) Ux.heap ∧ EV g Ux ∧ va_D (AX ad) (WX g ad S))) (va_Qi (fun y (_ : Unit) => y = rf) (fun _ t => PP g (WX g ad Sf) t.heap ∧ va_D (AX ad) (WX g ad Sf)) (AX ad)) 0 0 (AX ad) := by
  refine sm_st (by decide) ?_
  intro p e s m args below meth c hx hb hr hlocks hml hown hnm hts hv
  obtain ⟨hargs, hP, hE, hD⟩ := hv
  obtain ⟨hK, hN⟩ := id hE
  have hS : va_S (AX ad) s.heap s.heap [] := va_S.rf
  have hown : s.vm.findClass RX0 = some m.cls := hown
  refine sm_en _ (Nat.le_of_ble_eq_true rfl) hargs (fun ls hl => ?_)
  have hl : lv_has ls 5 [(0, .ref (ad 0)), (1, .int a1), (2, .int a2), (3, .int a3)] := hl
  generalize hQ : MQ below _ args s _ _ _ = Q
  unfold fX0_findRow_k5 at hf
  refine lv_iload_n hx hb dX0_findRow_0 rfl (lv_at hl 1 rfl) ?_
  refine lv_iload_n hx hb dX0_findRow_1 rfl (lv_at hl 2 rfl) ?_
  refine lv_icmp_ne (tgt := 15) hx hb dX0_findRow_2 (by decide) (fun c_1 => ?_) (fun c_1 => ?_)
  · have hf := (if_neg c_1).symm.trans hf
    refine lv_iconst (v := 0) hx hb dX0_findRow_15 (by decide) ?_
    refine lv_istore (lv' := [(4, .int 0), (0, .ref (ad 0)), (1, .int a1), (2, .int a2), (3, .int a3)]) hx hb dX0_findRow_16 hl (by decide) rfl (fun ls hl => ?_)
    have L_9 : ∀ (n : Nat) (x_2 : Int32) (S_3 : XS) (o_7 : ((Int32 × XS) ⊕ (XS × Int32))) (H : Heap) (locs : List Loc) (ls : Array Slot), sm_lp (fun q => fX0_findRow_k5_18 a1 a2 a3 q.1 q.2) n (x_2, S_3) = some o_7 → PP g (WX g ad S_3) H → va_D (AX ad) (WX g ad S_3) → va_S (AX ad) s.heap H locs → lv_has ls 5 [(0, .ref (ad 0)), (1, .int a1), (2, .int a2), (3, .int a3), (4, .int x_2)] → (∀ (x_2 : Int32) (S_3 : XS) (H : Heap) (locs : List Loc) (ls : Array Slot), o_7 = Sum.inl (x_2, S_3) → PP g (WX g ad S_3) H → va_D (AX ad) (WX g ad S_3) → va_S (AX ad) s.heap H locs → lv_has ls 5 [(0, .ref (ad 0)), (1, .int a1), (2, .int a2), (3, .int a3), (4, .int x_2)] → W p l e rX0_findRow_k5 s m args below meth c H locs 0 0 Q (F0 m 72 ls [])) → (∀ rv : (XS × Int32), o_7 = Sum.inr rv → rv = (Sf, rf)) → W p l e rX0_findRow_k5 s m args below meth c H locs 0 0 Q (F0 m 18 ls []) := by
      intro n
      induction n with
      | zero =>
        intro _ _ _ _ _ _ hf
        cases hf
      | succ n ih_4 =>
        intro x_2 S_3 o_7 H locs ls hf hP hD hS hl kx_5 kr_6
        obtain ⟨q, hf, hc_8⟩ := sm_bnd hf
        have hf : fX0_findRow_k5_18 a1 a2 a3 x_2 S_3 = some q := hf
        unfold fX0_findRow_k5_18 at hf
        refine lv_iload hx hb dX0_findRow_18 (lv_at hl 4 rfl) ?_
        refine lv_aload_n hx hb dX0_findRow_20 rfl (lv_at hl 0 rfl) ?_
        refine va_get (D := (g.1, g.2.1)) (ci := 0) (v := .ref (ad 1)) (C := RX0) (T := TX0) (N := 20) hx hb hts in_X0 hown hK hP 0 rfl rfl 0 (by decide) (hts _ q269) (fun _ h9 => h9) rfl dX0_findRow_21 ?_
        refine va_getN (D := (g.1, g.2.1)) (ci := 1) (v := .int (S_3.2.2.2.2.1.1 7)) (C := RX1) (T := TX1) (N := 9) hx hb hts in_X1 hown hK hP 1 rfl rfl 7 (by decide) (va_Nw.use rfl (hN _ q124 rfl)) (fun _ h9 => h9) rfl dX0_findRow_24 ?_
        refine lv_icmp_ge (tgt := 72) hx hb dX0_findRow_27 (by decide) (fun c_12 => ?_) (fun c_12 => ?_)
        · have hf := (if_pos c_12).symm.trans hf
          cases hf
          exact kx_5 _ _ _ _ _ (Option.some.inj hc_8).symm hP hD hS (lv_sub hl [0, 1, 2, 3, 4] rfl)
        · have hf := (if_neg c_12).symm.trans hf
          refine lv_iload_n hx hb dX0_findRow_30 rfl (lv_at hl 3 rfl) ?_
          refine lv_iload hx hb dX0_findRow_31 (lv_at hl 4 rfl) ?_
          refine lv_ishr hx hb dX0_findRow_33 ?_
          refine lv_iconst (v := 1) hx hb dX0_findRow_34 (by decide) ?_
          refine lv_iand hx hb dX0_findRow_35 ?_
          refine lv_if_ne (tgt := 66) hx hb dX0_findRow_36 (by decide) (fun c_13 => ?_) (fun c_13 => ?_)
          · have hf := (if_neg c_13).symm.trans hf
            refine lv_iinc (v := x_2 + 1) (lv' := [(4, .int (x_2 + 1)), (0, .ref (ad 0)), (1, .int a1), (2, .int a2), (3, .int a3)]) hx hb dX0_findRow_66 hl (k := 4) rfl rfl (by decide) rfl (fun ls hl => ?_)
            refine lv_goto (tgt := 18) hx hb dX0_findRow_69 (by decide) ?_
            cases hf
            exact ih_4 _ _ _ _ _ _ hc_8 hP hD hS (lv_sub hl [1, 2, 3, 4, 0] rfl) kx_5 kr_6
          · have hf := (if_pos c_13).symm.trans hf
            refine lv_aload_n hx hb dX0_findRow_39 rfl (lv_at hl 0 rfl) ?_
            refine va_get (D := (g.1, g.2.1)) (ci := 0) (v := .ref (ad 18)) (C := RX0) (T := TX0) (N := 20) hx hb hts in_X0 hown hK hP 0 rfl rfl 16 (by decide) (hts _ q288) (fun _ h9 => h9) rfl dX0_findRow_40 ?_
            refine lv_iload_n hx hb dX0_findRow_43 rfl (lv_at hl 1 rfl) ?_
            refine lv_iload hx hb dX0_findRow_44 (lv_at hl 4 rfl) ?_
            obtain ⟨hg, hf⟩ := sm_gd_e hf
            refine va_iast (i := a1) (x := x_2) hx hb hK hP hD hS 18 0 rfl rfl (sm_in hg) dX0_findRow_46 (fun H locs hP hD hS => ?_)
            obtain ⟨S_14, eS_14, hf⟩ := sm_lt_e hf
            have hP : PP g (WX g ad S_14) H := by rw [eS_14]; exact pxr16 hP
            have hD : va_D (AX ad) (WX g ad S_14) := by rw [eS_14]; exact dxr16 hD
            refine lv_aload_n hx hb dX0_findRow_47 rfl (lv_at hl 0 rfl) ?_
            refine lv_iload_n hx hb dX0_findRow_48 rfl (lv_at hl 1 rfl) ?_
            refine lv_iconst (v := 1) hx hb dX0_findRow_49 (by decide) ?_
            refine lv_iadd hx hb dX0_findRow_50 ?_
            refine lv_iload_n hx hb dX0_findRow_51 rfl (lv_at hl 2 rfl) ?_
            refine lv_iload_n hx hb dX0_findRow_52 rfl (lv_at hl 3 rfl) ?_
            refine lv_iconst (v := 1) hx hb dX0_findRow_53 (by decide) ?_
            refine lv_iload hx hb dX0_findRow_54 (lv_at hl 4 rfl) ?_
            refine lv_ishl hx hb dX0_findRow_56 ?_
            refine lv_ior hx hb dX0_findRow_57 ?_
            obtain ⟨S_15, r_17, h_16, hf⟩ := sm_b2_e hf
            refine va_calli (va_runV (As := [.int (a1 + 1), .int a2, .int (a3 ||| (1 <<< (x_2 &&& 31)))]) (rest := []) ⟨hx, hb, hml, hown, hts⟩ (wX0_findRow_k4 l g ad S_14 (a1 + 1) a2 (a3 ||| (1 <<< (x_2 &&& 31))) S_15 r_17 h_16) (cwV 3 hts (lw_V q793 q795 qs21 q60 q796) rfl rfl rfl (by decide +kernel) ⟨Nat.le_of_ble_eq_true rfl, Nat.le_of_ble_eq_true rfl⟩) (sm_pe hE hP hD (va_recv hK hP (ci := 0) (q0 := 0) rfl rfl)) rfl rfl hl.1 rfl (lv_room (Nat.le_of_ble_eq_true rfl)) dX0_findRow_58 ⟨Nat.le_of_ble_eq_true rfl, Nat.le_of_ble_eq_true rfl⟩) hS (fun _ _ h => h) (fun _ h => h) (fun r_19 u t H locs ht hvm er_18 hB hz hk hS => ?_)
            have er_18 := er_18.symm
            subst er_18
            obtain ⟨hP, hD⟩ := hB
            rw [ht] at hP
            refine lv_if_eq (tgt := 66) hx hb dX0_findRow_61 (by decide) (fun c_20 => ?_) (fun c_20 => ?_)
            · have hf := (if_pos c_20).symm.trans hf
              refine lv_iinc (v := x_2 + 1) (lv' := [(4, .int (x_2 + 1)), (0, .ref (ad 0)), (1, .int a1), (2, .int a2), (3, .int a3)]) hx hb dX0_findRow_66 hl (k := 4) rfl rfl (by decide) rfl (fun ls hl => ?_)
              refine lv_goto (tgt := 18) hx hb dX0_findRow_69 (by decide) ?_
              cases hf
              exact ih_4 _ _ _ _ _ _ hc_8 hP hD hS (lv_sub hl [1, 2, 3, 4, 0] rfl) kx_5 kr_6
            · have hf := (if_neg c_20).symm.trans hf
              refine lv_iconst (v := 1) hx hb dX0_findRow_64 (by decide) ?_
              cases hf
              have hf := kr_6 _ (Option.some.inj hc_8).symm
              rw [← hQ]
              have hf := Prod.mk.inj hf
              exact W.zret (v := 1) hx hb hr rfl (fun t ht hW => ⟨⟨_, (), rfl, hf.2, by rw [ht, ← hf.1]; exact hP, by rw [← hf.1]; exact hD⟩, hS.F ht⟩) hS.2.2 dX0_findRow_65
    obtain ⟨o_21, ho, hf⟩ := sm_r_e hf
    refine L_9 FU 0 S o_21 s.heap [] ls ho hP hD hS (lv_sub hl [1, 2, 3, 4, 0] rfl) ?_ ?_
    · intro x_22 S_23 H locs ls eo hP hD hS hl
      subst eo
      dsimp only [Sum.elim_inl, sm_u2] at hf
      refine lv_iconst (v := 0) hx hb dX0_findRow_72 (by decide) ?_
      have hf := Option.some.inj hf
      rw [← hQ]
      have hf := Prod.mk.inj hf
      exact W.zret (v := 0) hx hb hr rfl (fun t ht hW => ⟨⟨_, (), rfl, hf.2, by rw [ht, ← hf.1]; exact hP, by rw [← hf.1]; exact hD⟩, hS.F ht⟩) hS.2.2 dX0_findRow_73
    · intro rv_24 eo
      subst eo
      have hf : some rv_24 = _ := hf
      have hf := Option.some.inj hf
      exact hf
  · have hf := (if_pos c_1).symm.trans hf
    refine lv_aload_n hx hb dX0_findRow_5 rfl (lv_at hl 0 rfl) ?_
    refine lv_aload_n hx hb dX0_findRow_6 rfl (lv_at hl 0 rfl) ?_
    refine va_get (D := (g.1, g.2.1)) (ci := 0) (v := .ref (ad 18)) (C := RX0) (T := TX0) (N := 20) hx hb hts in_X0 hown hK hP 0 rfl rfl 16 (by decide) (hts _ q288) (fun _ h9 => h9) rfl dX0_findRow_7 ?_
    refine lv_iload_n hx hb dX0_findRow_10 rfl (lv_at hl 2 rfl) ?_
    obtain ⟨r_25, h_26, hf⟩ := sm_b1_e hf
    refine vp_callSi (W.runV (As := [.ref (ad 18), .int a2]) (rest := []) ⟨hx, hb, hml, hown, hts⟩ (wX0_makes l g ad S a2 r_25 h_26) (cwV 2 hts (lw_V q785 q787 qs20 q60 q788) rfl rfl rfl (by decide +kernel) ⟨Nat.le_of_ble_eq_true rfl, Nat.le_of_ble_eq_true rfl⟩) (sm_pv hE hP (va_recv hK hP (ci := 0) (q0 := 0) rfl rfl)) rfl rfl hl.1 rfl (lv_room (Nat.le_of_ble_eq_true rfl)) dX0_findRow_11 ⟨Nat.le_of_ble_eq_true rfl, Nat.le_of_ble_eq_true rfl⟩) (fun r_28 er_27 => ?_)
    have er_27 := er_27.symm
    subst er_27
    obtain ⟨hg, hf⟩ := sm_gd_e hf
    have hf := Option.some.inj hf
    rw [← hQ]
    have hf := Prod.mk.inj hf
    exact W.zret (v := r_25) hx hb hr (sm_bz_nar hg) (fun t ht hW => ⟨⟨_, (), rfl, hf.2, by rw [ht, ← hf.1]; exact hP, by rw [← hf.1]; exact hD⟩, hS.F ht⟩) hS.2.2 dX0_findRow_14
abbrev rX0_chain : Room := { frames := 7, cells := 0, slots := 0, locals := 168 }
set_option maxHeartbeats 4000000 in
theorem wX0_chain (l : Launch) (g : GG) (ad : Nat → Nat) (S : XS) (a1 : Int32) (a2 : Int32) (Sf : XS) (rf : Int32) (hf : fX0_chain S a1 a2 = some (Sf, rf)) : Met l yX0_chain (ws_ yX0_chain cX0_chain 4 (some .int)) rX0_chain (va_Pc [.ref (ad 0), .int a1, .int a2] (fun Ux => PP g (WX g ad S) Ux.heap ∧ EV g Ux ∧ va_D (AX ad) (WX g ad S))) (va_Qi (fun y (_ : Unit) => y = rf) (fun _ t => PP g (WX g ad Sf) t.heap ∧ va_D (AX ad) (WX g ad Sf)) (AX ad)) 0 0 (AX ad) := by
  refine sm_st (by decide) ?_
  intro p e s m args below meth c hx hb hr hlocks hml hown hnm hts hv
  obtain ⟨hargs, hP, hE, hD⟩ := hv
  obtain ⟨hK, hN⟩ := id hE
  have hS : va_S (AX ad) s.heap s.heap [] := va_S.rf
  have hown : s.vm.findClass RX0 = some m.cls := hown
  refine sm_en _ (Nat.le_of_ble_eq_true rfl) hargs (fun ls hl => ?_)
  have hl : lv_has ls 4 [(0, .ref (ad 0)), (1, .int a1), (2, .int a2)] := hl
  generalize hQ : MQ below _ args s _ _ _ = Q
  unfold fX0_chain at hf
  refine lv_aload_n hx hb dX0_chain_0 rfl (lv_at hl 0 rfl) ?_
  refine lv_iload_n hx hb dX0_chain_1 rfl (lv_at hl 1 rfl) ?_
  obtain ⟨S_1, r_3, h_2, hf⟩ := sm_b2_e hf
  refine va_calli (va_runV (As := [.int a1]) (rest := []) ⟨hx, hb, hml, hown, hts⟩ (wX0_isLetter l g ad S a1 S_1 r_3 h_2) (cwV 1 hts (lw_V q781 q783 qs19 q60 q784) rfl rfl rfl (by decide +kernel) ⟨Nat.le_of_ble_eq_true rfl, Nat.le_of_ble_eq_true rfl⟩) (sm_pe hE hP hD (va_recv hK hP (ci := 0) (q0 := 0) rfl rfl)) rfl rfl hl.1 rfl (lv_room (Nat.le_of_ble_eq_true rfl)) dX0_chain_2 ⟨Nat.le_of_ble_eq_true rfl, Nat.le_of_ble_eq_true rfl⟩) hS (fun _ _ h => h) (fun _ h => h) (fun r_5 u t H locs ht hvm er_4 hB hz hk hS => ?_)
  have er_4 := er_4.symm
  subst er_4
  obtain ⟨hP, hD⟩ := hB
  rw [ht] at hP
  refine lv_if_eq (tgt := 13) hx hb dX0_chain_5 (by decide) (fun c_6 => ?_) (fun c_6 => ?_)
  · have hf := (if_pos c_6).symm.trans hf
    refine lv_iconst (v := (-1)) hx hb dX0_chain_13 (by decide) ?_
    have hf := Option.some.inj hf
    rw [← hQ]
    have hf := Prod.mk.inj hf
    exact W.iret (v := (-1)) hx hb hr (fun t ht hW => ⟨⟨_, (), rfl, hf.2, by rw [ht, ← hf.1]; exact hP, by rw [← hf.1]; exact hD⟩, hS.F ht⟩) hS.2.2 dX0_chain_14
  · have hf := (if_neg c_6).symm.trans hf
    refine lv_iload_n hx hb dX0_chain_8 rfl (lv_at hl 2 rfl) ?_
    refine lv_iconst (v := (-1)) hx hb dX0_chain_9 (by decide) ?_
    refine lv_icmp_ge (tgt := 15) hx hb dX0_chain_10 (by decide) (fun c_7 => ?_) (fun c_7 => ?_)
    · have hf := (if_pos c_7).symm.trans hf
      refine lv_iconst (v := 0) hx hb dX0_chain_15 (by decide) ?_
      refine lv_istore_n (lv' := [(3, .int 0), (0, .ref (ad 0)), (1, .int a1), (2, .int a2)]) hx hb dX0_chain_16 rfl hl (by decide) rfl (fun ls hl => ?_)
      have L_15 : ∀ (n : Nat) (x_8 : Int32) (S_9 : XS) (o_13 : ((Int32 × XS) ⊕ (XS × Int32))) (H : Heap) (locs : List Loc) (ls : Array Slot), sm_lp (fun q => fX0_chain_17 q.1 q.2) n (x_8, S_9) = some o_13 → PP g (WX g ad S_9) H → va_D (AX ad) (WX g ad S_9) → va_S (AX ad) s.heap H locs → lv_has ls 4 [(0, .ref (ad 0)), (1, .int a1), (2, .int a2), (3, .int x_8)] → (∀ (x_8 : Int32) (S_9 : XS) (H : Heap) (locs : List Loc) (ls : Array Slot), o_13 = Sum.inl (x_8, S_9) → PP g (WX g ad S_9) H → va_D (AX ad) (WX g ad S_9) → va_S (AX ad) s.heap H locs → lv_has ls 4 [(0, .ref (ad 0)), (1, .int a1), (2, .int a2), (3, .int x_8)] → W p l e rX0_chain s m args below meth c H locs 0 0 Q (F0 m 38 ls [])) → (∀ rv : (XS × Int32), o_13 = Sum.inr rv → rv = (Sf, rf)) → W p l e rX0_chain s m args below meth c H locs 0 0 Q (F0 m 17 ls []) := by
        intro n
        induction n with
        | zero =>
          intro _ _ _ _ _ _ hf
          cases hf
        | succ n ih_10 =>
          intro x_8 S_9 o_13 H locs ls hf hP hD hS hl kx_11 kr_12
          obtain ⟨q, hf, hc_14⟩ := sm_bnd hf
          have hf : fX0_chain_17 x_8 S_9 = some q := hf
          unfold fX0_chain_17 at hf
          refine lv_iload_n hx hb dX0_chain_17 rfl (lv_at hl 3 rfl) ?_
          refine lv_aload_n hx hb dX0_chain_18 rfl (lv_at hl 0 rfl) ?_
          refine va_get (D := (g.1, g.2.1)) (ci := 0) (v := .ref (ad 1)) (C := RX0) (T := TX0) (N := 20) hx hb hts in_X0 hown hK hP 0 rfl rfl 0 (by decide) (hts _ q269) (fun _ h9 => h9) rfl dX0_chain_19 ?_
          refine va_getN (D := (g.1, g.2.1)) (ci := 1) (v := .int (S_9.2.2.2.2.1.1 7)) (C := RX1) (T := TX1) (N := 9) hx hb hts in_X1 hown hK hP 1 rfl rfl 7 (by decide) (va_Nw.use rfl (hN _ q124 rfl)) (fun _ h9 => h9) rfl dX0_chain_22 ?_
          refine lv_icmp_gt (tgt := 84) hx hb dX0_chain_25 (by decide) (fun c_18 => ?_) (fun c_18 => ?_)
          · have hf := (if_pos c_18).symm.trans hf
            refine lv_bipush (v := (-9)) hx hb dX0_chain_84 (by decide) ?_
            cases hf
            have hf := kr_12 _ (Option.some.inj hc_14).symm
            rw [← hQ]
            have hf := Prod.mk.inj hf
            exact W.iret (v := (-9)) hx hb hr (fun t ht hW => ⟨⟨_, (), rfl, hf.2, by rw [ht, ← hf.1]; exact hP, by rw [← hf.1]; exact hD⟩, hS.F ht⟩) hS.2.2 dX0_chain_86
          · have hf := (if_neg c_18).symm.trans hf
            refine lv_aload_n hx hb dX0_chain_28 rfl (lv_at hl 0 rfl) ?_
            refine lv_iconst (v := 0) hx hb dX0_chain_29 (by decide) ?_
            refine lv_iload_n hx hb dX0_chain_30 rfl (lv_at hl 3 rfl) ?_
            refine lv_iconst (v := 0) hx hb dX0_chain_31 (by decide) ?_
            obtain ⟨S_19, r_21, h_20, hf⟩ := sm_b2_e hf
            refine va_calli (va_runV (As := [.int 0, .int x_8, .int 0]) (rest := []) ⟨hx, hb, hml, hown, hts⟩ (wX0_findRow_k5 l g ad S_9 0 x_8 0 S_19 r_21 h_20) (cwV 3 hts (lw_V q793 q795 qs21 q60 q796) rfl rfl rfl (by decide +kernel) ⟨Nat.le_of_ble_eq_true rfl, Nat.le_of_ble_eq_true rfl⟩) (sm_pe hE hP hD (va_recv hK hP (ci := 0) (q0 := 0) rfl rfl)) rfl rfl hl.1 rfl (lv_room (Nat.le_of_ble_eq_true rfl)) dX0_chain_32 ⟨Nat.le_of_ble_eq_true rfl, Nat.le_of_ble_eq_true rfl⟩) hS (fun _ _ h => h) (fun _ h => h) (fun r_23 u t H locs ht hvm er_22 hB hz hk hS => ?_)
            have er_22 := er_22.symm
            subst er_22
            obtain ⟨hP, hD⟩ := hB
            rw [ht] at hP
            refine lv_if_eq (tgt := 78) hx hb dX0_chain_35 (by decide) (fun c_24 => ?_) (fun c_24 => ?_)
            · have hf := (if_pos c_24).symm.trans hf
              refine lv_iinc (v := x_8 + 1) (lv' := [(3, .int (x_8 + 1)), (0, .ref (ad 0)), (1, .int a1), (2, .int a2)]) hx hb dX0_chain_78 hl (k := 3) rfl rfl (by decide) rfl (fun ls hl => ?_)
              refine lv_goto (tgt := 17) hx hb dX0_chain_81 (by decide) ?_
              cases hf
              exact ih_10 _ _ _ _ _ _ hc_14 hP hD hS (lv_sub hl [1, 2, 3, 0] rfl) kx_11 kr_12
            · have hf := (if_neg c_24).symm.trans hf
              cases hf
              exact kx_11 _ _ _ _ _ (Option.some.inj hc_14).symm hP hD hS (lv_sub hl [0, 1, 2, 3] rfl)
      obtain ⟨o_25, ho, hf⟩ := sm_r_e hf
      refine L_15 FU 0 S_1 o_25 H locs ls ho hP hD hS (lv_sub hl [1, 2, 3, 0] rfl) ?_ ?_
      · intro x_26 S_27 H locs ls eo hP hD hS hl
        subst eo
        dsimp only [Sum.elim_inl, sm_u2] at hf
        refine lv_aload_n hx hb dX0_chain_38 rfl (lv_at hl 0 rfl) ?_
        refine va_get (D := (g.1, g.2.1)) (ci := 0) (v := .ref (ad 18)) (C := RX0) (T := TX0) (N := 20) hx hb hts in_X0 hown hK hP 0 rfl rfl 16 (by decide) (hts _ q288) (fun _ h9 => h9) rfl dX0_chain_39 ?_
        refine lv_iconst (v := 0) hx hb dX0_chain_42 (by decide) ?_
        refine lv_aload_n hx hb dX0_chain_43 rfl (lv_at hl 0 rfl) ?_
        refine va_get (D := (g.1, g.2.1)) (ci := 0) (v := .ref (ad 19)) (C := RX0) (T := TX0) (N := 20) hx hb hts in_X0 hown hK hP 0 rfl rfl 17 (by decide) (hts _ q289) (fun _ h9 => h9) rfl dX0_chain_44 ?_
        refine lv_iconst (v := 0) hx hb dX0_chain_47 (by decide) ?_
        refine lv_iconst (v := 4) hx hb dX0_chain_48 (by decide) ?_
        refine sm_copyi (SP := 0) (DP := 0) (N := 4) hx hb (hml.trans hl.1.symm) hown (hts _ q620) (hts _ q622) (hts _ q621) (hts _ q82) hK hP hD hS 18 19 0 0 rfl rfl rfl rfl rfl rfl rfl rfl (by decide) (by decide) (by decide) (by decide) (by decide) (fun _ _ => rfl) (Nat.le_of_ble_eq_true rfl) (Nat.le_of_ble_eq_true rfl) dX0_chain_49 (fun H locs hP hD hS => ?_)
        obtain ⟨S_28, eS_28, hf⟩ := sm_lt_e hf
        have hP : PP g (WX g ad S_28) H := by rw [eS_28]; exact pxw17 hP
        have hD : va_D (AX ad) (WX g ad S_28) := by rw [eS_28]; exact dxw17 hD
        refine lv_iload_n hx hb dX0_chain_52 rfl (lv_at hl 2 rfl) ?_
        refine lv_iconst (v := (-1)) hx hb dX0_chain_53 (by decide) ?_
        refine lv_icmp_ne (tgt := 61) hx hb dX0_chain_54 (by decide) (fun c_29 => ?_) (fun c_29 => ?_)
        · have hf := (if_neg c_29).symm.trans hf
          refine lv_iload_n hx hb dX0_chain_61 rfl (lv_at hl 2 rfl) ?_
          refine lv_iload_n hx hb dX0_chain_62 rfl (lv_at hl 3 rfl) ?_
          refine lv_icmp_ge (tgt := 75) hx hb dX0_chain_63 (by decide) (fun c_30 => ?_) (fun c_30 => ?_)
          · have hf := (if_pos c_30).symm.trans hf
            refine lv_bipush (v := (-5)) hx hb dX0_chain_75 (by decide) ?_
            have hf := Option.some.inj hf
            rw [← hQ]
            have hf := Prod.mk.inj hf
            exact W.iret (v := (-5)) hx hb hr (fun t ht hW => ⟨⟨_, (), rfl, hf.2, by rw [ht, ← hf.1]; exact hP, by rw [← hf.1]; exact hD⟩, hS.F ht⟩) hS.2.2 dX0_chain_77
          · have hf := (if_neg c_30).symm.trans hf
            refine lv_aload_n hx hb dX0_chain_66 rfl (lv_at hl 0 rfl) ?_
            refine va_get (D := (g.1, g.2.1)) (ci := 0) (v := .ref (ad 19)) (C := RX0) (T := TX0) (N := 20) hx hb hts in_X0 hown hK hP 0 rfl rfl 17 (by decide) (hts _ q289) (fun _ h9 => h9) rfl dX0_chain_67 ?_
            refine lv_iload_n hx hb dX0_chain_70 rfl (lv_at hl 2 rfl) ?_
            obtain ⟨hg, hf⟩ := sm_gd_e hf
            refine va_iald hx hb hK hP 19 0 rfl rfl (sm_in hg) dX0_chain_71 ?_
            refine lv_goto (tgt := 77) hx hb dX0_chain_72 (by decide) ?_
            have hf := Option.some.inj hf
            rw [← hQ]
            have hf := Prod.mk.inj hf
            exact W.iret (v := S_28.2.1 17 a2.toNatClampNeg) hx hb hr (fun t ht hW => ⟨⟨_, (), rfl, hf.2, by rw [ht, ← hf.1]; exact hP, by rw [← hf.1]; exact hD⟩, hS.F ht⟩) hS.2.2 dX0_chain_77
        · have hf := (if_pos c_29).symm.trans hf
          refine lv_iload_n hx hb dX0_chain_57 rfl (lv_at hl 3 rfl) ?_
          refine lv_goto (tgt := 77) hx hb dX0_chain_58 (by decide) ?_
          have hf := Option.some.inj hf
          rw [← hQ]
          have hf := Prod.mk.inj hf
          exact W.iret (v := x_26) hx hb hr (fun t ht hW => ⟨⟨_, (), rfl, hf.2, by rw [ht, ← hf.1]; exact hP, by rw [← hf.1]; exact hD⟩, hS.F ht⟩) hS.2.2 dX0_chain_77
      · intro rv_31 eo
        subst eo
        have hf : some rv_31 = _ := hf
        have hf := Option.some.inj hf
        exact hf
    · have hf := (if_neg c_7).symm.trans hf
      refine lv_iconst (v := (-1)) hx hb dX0_chain_13 (by decide) ?_
      have hf := Option.some.inj hf
      rw [← hQ]
      have hf := Prod.mk.inj hf
      exact W.iret (v := (-1)) hx hb hr (fun t ht hW => ⟨⟨_, (), rfl, hf.2, by rw [ht, ← hf.1]; exact hP, by rw [← hf.1]; exact hD⟩, hS.F ht⟩) hS.2.2 dX0_chain_14
abbrev rX3_rate_23 : Room := { frames := 1, cells := 0, slots := 0, locals := 20 }
set_option maxHeartbeats 4000000 in
theorem wX3_rate_23 (l : Launch) (g : GG) (ad : Nat → Nat) (S : XS) (a1 : Int32) (Sf : XS) (rf : Int32) (hf : fX3_rate_23 S a1 = some (Sf, rf)) : Met l yX3_rate (ws_ yX3_rate cX3_rate 2 (some .int)) rX3_rate_23 (va_Pc [.ref (ad 23), .int a1] (fun Ux => PP g (WX g ad S) Ux.heap ∧ EV g Ux ∧ va_D (AX ad) (WX g ad S))) (va_Qi (fun y (_ : Unit) => y = rf) (fun _ t => PP g (WX g ad Sf) t.heap ∧ va_D (AX ad) (WX g ad Sf)) (AX ad)) 0 0 (AX ad) := by
  refine sm_st (by decide) ?_
  intro p e s m args below meth c hx hb hr hlocks hml hown hnm hts hv
  obtain ⟨hargs, hP, hE, hD⟩ := hv
  obtain ⟨hK, hN⟩ := id hE
  have hS : va_S (AX ad) s.heap s.heap [] := va_S.rf
  have hown : s.vm.findClass RX3 = some m.cls := hown
  refine sm_en _ (Nat.le_of_ble_eq_true rfl) hargs (fun ls hl => ?_)
  have hl : lv_has ls 2 [(0, .ref (ad 23)), (1, .int a1)] := hl
  generalize hQ : MQ below _ args s _ _ _ = Q
  unfold fX3_rate_23 at hf
  refine lv_aload_n hx hb dX3_rate_0 rfl (lv_at hl 0 rfl) ?_
  refine va_get (D := (g.1, g.2.1)) (ci := 3) (v := .ref (ad 0)) (C := RX3) (T := TX3) (N := 1) hx hb hts in_X3 hown hK hP 23 rfl rfl 0 (by decide) (hts _ q203) (fun _ h9 => h9) rfl dX3_rate_1 ?_
  refine lv_dup hx hb dX3_rate_4 rfl ?_
  refine va_getN (D := (g.1, g.2.1)) (ci := 0) (v := .long S.2.2.2.1) (C := RX0) (T := TX0) (N := 20) hx hb hts in_X0 hown hK hP 0 rfl rfl 18 (by decide) (va_Nw.use rfl (hN _ q290 rfl)) (fun _ h9 => h9) rfl dX3_rate_5 ?_
  refine lv_lconst (v := 1) hx hb dX3_rate_8 (by decide) ?_
  refine lv_ladd hx hb dX3_rate_9 ?_
  refine va_putN (D := (g.1, g.2.1)) (ci := 0) (v := .long (S.2.2.2.1 + 1)) (ty := .long) (C := RX0) (T := TX0) (N := 20) hx hb hts in_X0 tyX0 tyX0_ok nmX0 hown hK hP hD hS 0 rfl rfl 18 (by decide) (va_Nw.use rfl (hN _ q290 rfl)) (fun _ h9 => h9) rfl (by decide +kernel) rfl rfl (Nat.le_of_ble_eq_true rfl) dX3_rate_10 (fun H locs hP hD hS => ?_)
  obtain ⟨S_1, eS_1, hf⟩ := sm_lt_e hf
  have hP : PP g (WX g ad S_1) H := by rw [eS_1]; exact pxf18 hP
  have hD : va_D (AX ad) (WX g ad S_1) := by rw [eS_1]; exact dxf18 hD
  refine lv_aload_n hx hb dX3_rate_13 rfl (lv_at hl 0 rfl) ?_
  refine va_get (D := (g.1, g.2.1)) (ci := 3) (v := .ref (ad 0)) (C := RX3) (T := TX3) (N := 1) hx hb hts in_X3 hown hK hP 23 rfl rfl 0 (by decide) (hts _ q203) (fun _ h9 => h9) rfl dX3_rate_14 ?_
  refine va_getN (D := (g.1, g.2.1)) (ci := 0) (v := .ref (ad 1)) (C := RX0) (T := TX0) (N := 20) hx hb hts in_X0 hown hK hP 0 rfl rfl 0 (by decide) (va_Nw.use rfl (hN _ q266 rfl)) (fun _ h9 => h9) rfl dX3_rate_17 ?_
  refine va_getN (D := (g.1, g.2.1)) (ci := 1) (v := .ref (ad 5)) (C := RX1) (T := TX1) (N := 9) hx hb hts in_X1 hown hK hP 1 rfl rfl 3 (by decide) (va_Nw.use rfl (hN _ q109 rfl)) (fun _ h9 => h9) rfl dX3_rate_20 ?_
  refine lv_iload_n hx hb dX3_rate_23 rfl (lv_at hl 1 rfl) ?_
  obtain ⟨hg, hf⟩ := sm_gd_e hf
  refine va_iald hx hb hK hP 5 0 rfl rfl (sm_in hg) dX3_rate_24 ?_
  refine vp_callSi (W.runS (As := [.int (S_1.2.2.2.2.1.2 3 a1.toNatClampNeg)]) (rest := []) ⟨hx, hb, hml, hown, hts⟩ (wJ10_bitCount l (S_1.2.2.2.2.1.2 3 a1.toNatClampNeg) (fJ10_bitCount (S_1.2.2.2.2.1.2 3 a1.toNatClampNeg)) rfl) (va_cwS 1 hts (lw_S q832 q654 q83 q655) rfl rfl rfl (by decide +kernel) ⟨Nat.le_of_ble_eq_true rfl, Nat.le_of_ble_eq_true rfl⟩) (sm_ps) rfl rfl hl.1 rfl (lv_room (Nat.le_of_ble_eq_true rfl)) dX3_rate_25 ⟨Nat.le_of_ble_eq_true rfl, Nat.le_of_ble_eq_true rfl⟩) (fun r_3 er_2 => ?_)
  have er_2 := er_2.symm
  subst er_2
  have hf := Option.some.inj hf
  rw [← hQ]
  have hf := Prod.mk.inj hf
  exact W.iret (v := fJ10_bitCount (S_1.2.2.2.2.1.2 3 a1.toNatClampNeg)) hx hb hr (fun t ht hW => ⟨⟨_, (), rfl, hf.2, by rw [ht, ← hf.1]; exact hP, by rw [← hf.1]; exact hD⟩, hS.F ht⟩) hS.2.2 dX3_rate_28
abbrev rX3_rate_24 : Room := { frames := 1, cells := 0, slots := 0, locals := 20 }
set_option maxHeartbeats 4000000 in
theorem wX3_rate_24 (l : Launch) (g : GG) (ad : Nat → Nat) (S : XS) (a1 : Int32) (Sf : XS) (rf : Int32) (hf : fX3_rate_24 S a1 = some (Sf, rf)) : Met l yX3_rate (ws_ yX3_rate cX3_rate 2 (some .int)) rX3_rate_24 (va_Pc [.ref (ad 24), .int a1] (fun Ux => PP g (WX g ad S) Ux.heap ∧ EV g Ux ∧ va_D (AX ad) (WX g ad S))) (va_Qi (fun y (_ : Unit) => y = rf) (fun _ t => PP g (WX g ad Sf) t.heap ∧ va_D (AX ad) (WX g ad Sf)) (AX ad)) 0 0 (AX ad) := by
  refine sm_st (by decide) ?_
  intro p e s m args below meth c hx hb hr hlocks hml hown hnm hts hv
  obtain ⟨hargs, hP, hE, hD⟩ := hv
  obtain ⟨hK, hN⟩ := id hE
  have hS : va_S (AX ad) s.heap s.heap [] := va_S.rf
  have hown : s.vm.findClass RX3 = some m.cls := hown
  refine sm_en _ (Nat.le_of_ble_eq_true rfl) hargs (fun ls hl => ?_)
  have hl : lv_has ls 2 [(0, .ref (ad 24)), (1, .int a1)] := hl
  generalize hQ : MQ below _ args s _ _ _ = Q
  unfold fX3_rate_24 at hf
  refine lv_aload_n hx hb dX3_rate_0 rfl (lv_at hl 0 rfl) ?_
  refine va_get (D := (g.1, g.2.1)) (ci := 4) (v := .ref (ad 0)) (C := RX4) (T := TX4) (N := 2) hx hb hts in_X4 hown hK hP 24 rfl rfl 0 (by decide) (hts _ q203) (fun _ h9 => h9) rfl dX3_rate_1 ?_
  refine lv_dup hx hb dX3_rate_4 rfl ?_
  refine va_getN (D := (g.1, g.2.1)) (ci := 0) (v := .long S.2.2.2.1) (C := RX0) (T := TX0) (N := 20) hx hb hts in_X0 hown hK hP 0 rfl rfl 18 (by decide) (va_Nw.use rfl (hN _ q290 rfl)) (fun _ h9 => h9) rfl dX3_rate_5 ?_
  refine lv_lconst (v := 1) hx hb dX3_rate_8 (by decide) ?_
  refine lv_ladd hx hb dX3_rate_9 ?_
  refine va_putN (D := (g.1, g.2.1)) (ci := 0) (v := .long (S.2.2.2.1 + 1)) (ty := .long) (C := RX0) (T := TX0) (N := 20) hx hb hts in_X0 tyX0 tyX0_ok nmX0 hown hK hP hD hS 0 rfl rfl 18 (by decide) (va_Nw.use rfl (hN _ q290 rfl)) (fun _ h9 => h9) rfl (by decide +kernel) rfl rfl (Nat.le_of_ble_eq_true rfl) dX3_rate_10 (fun H locs hP hD hS => ?_)
  obtain ⟨S_1, eS_1, hf⟩ := sm_lt_e hf
  have hP : PP g (WX g ad S_1) H := by rw [eS_1]; exact pxf18 hP
  have hD : va_D (AX ad) (WX g ad S_1) := by rw [eS_1]; exact dxf18 hD
  refine lv_aload_n hx hb dX3_rate_13 rfl (lv_at hl 0 rfl) ?_
  refine va_get (D := (g.1, g.2.1)) (ci := 4) (v := .ref (ad 0)) (C := RX4) (T := TX4) (N := 2) hx hb hts in_X4 hown hK hP 24 rfl rfl 0 (by decide) (hts _ q203) (fun _ h9 => h9) rfl dX3_rate_14 ?_
  refine va_getN (D := (g.1, g.2.1)) (ci := 0) (v := .ref (ad 1)) (C := RX0) (T := TX0) (N := 20) hx hb hts in_X0 hown hK hP 0 rfl rfl 0 (by decide) (va_Nw.use rfl (hN _ q266 rfl)) (fun _ h9 => h9) rfl dX3_rate_17 ?_
  refine va_getN (D := (g.1, g.2.1)) (ci := 1) (v := .ref (ad 5)) (C := RX1) (T := TX1) (N := 9) hx hb hts in_X1 hown hK hP 1 rfl rfl 3 (by decide) (va_Nw.use rfl (hN _ q109 rfl)) (fun _ h9 => h9) rfl dX3_rate_20 ?_
  refine lv_iload_n hx hb dX3_rate_23 rfl (lv_at hl 1 rfl) ?_
  obtain ⟨hg, hf⟩ := sm_gd_e hf
  refine va_iald hx hb hK hP 5 0 rfl rfl (sm_in hg) dX3_rate_24 ?_
  refine vp_callSi (W.runS (As := [.int (S_1.2.2.2.2.1.2 3 a1.toNatClampNeg)]) (rest := []) ⟨hx, hb, hml, hown, hts⟩ (wJ10_bitCount l (S_1.2.2.2.2.1.2 3 a1.toNatClampNeg) (fJ10_bitCount (S_1.2.2.2.2.1.2 3 a1.toNatClampNeg)) rfl) (va_cwS 1 hts (lw_S q832 q654 q83 q655) rfl rfl rfl (by decide +kernel) ⟨Nat.le_of_ble_eq_true rfl, Nat.le_of_ble_eq_true rfl⟩) (sm_ps) rfl rfl hl.1 rfl (lv_room (Nat.le_of_ble_eq_true rfl)) dX3_rate_25 ⟨Nat.le_of_ble_eq_true rfl, Nat.le_of_ble_eq_true rfl⟩) (fun r_3 er_2 => ?_)
  have er_2 := er_2.symm
  subst er_2
  have hf := Option.some.inj hf
  rw [← hQ]
  have hf := Prod.mk.inj hf
  exact W.iret (v := fJ10_bitCount (S_1.2.2.2.2.1.2 3 a1.toNatClampNeg)) hx hb hr (fun t ht hW => ⟨⟨_, (), rfl, hf.2, by rw [ht, ← hf.1]; exact hP, by rw [← hf.1]; exact hD⟩, hS.F ht⟩) hS.2.2 dX3_rate_28
abbrev rX3_rate_25 : Room := { frames := 1, cells := 0, slots := 0, locals := 20 }
set_option maxHeartbeats 4000000 in
theorem wX3_rate_25 (l : Launch) (g : GG) (ad : Nat → Nat) (S : XS) (a1 : Int32) (Sf : XS) (rf : Int32) (hf : fX3_rate_25 S a1 = some (Sf, rf)) : Met l yX3_rate (ws_ yX3_rate cX3_rate 2 (some .int)) rX3_rate_25 (va_Pc [.ref (ad 25), .int a1] (fun Ux => PP g (WX g ad S) Ux.heap ∧ EV g Ux ∧ va_D (AX ad) (WX g ad S))) (va_Qi (fun y (_ : Unit) => y = rf) (fun _ t => PP g (WX g ad Sf) t.heap ∧ va_D (AX ad) (WX g ad Sf)) (AX ad)) 0 0 (AX ad) := by
  refine sm_st (by decide) ?_
  intro p e s m args below meth c hx hb hr hlocks hml hown hnm hts hv
  obtain ⟨hargs, hP, hE, hD⟩ := hv
  obtain ⟨hK, hN⟩ := id hE
  have hS : va_S (AX ad) s.heap s.heap [] := va_S.rf
  have hown : s.vm.findClass RX3 = some m.cls := hown
  refine sm_en _ (Nat.le_of_ble_eq_true rfl) hargs (fun ls hl => ?_)
  have hl : lv_has ls 2 [(0, .ref (ad 25)), (1, .int a1)] := hl
  generalize hQ : MQ below _ args s _ _ _ = Q
  unfold fX3_rate_25 at hf
  refine lv_aload_n hx hb dX3_rate_0 rfl (lv_at hl 0 rfl) ?_
  refine va_get (D := (g.1, g.2.1)) (ci := 5) (v := .ref (ad 0)) (C := RX5) (T := TX5) (N := 2) hx hb hts in_X5 hown hK hP 25 rfl rfl 0 (by decide) (hts _ q203) (fun _ h9 => h9) rfl dX3_rate_1 ?_
  refine lv_dup hx hb dX3_rate_4 rfl ?_
  refine va_getN (D := (g.1, g.2.1)) (ci := 0) (v := .long S.2.2.2.1) (C := RX0) (T := TX0) (N := 20) hx hb hts in_X0 hown hK hP 0 rfl rfl 18 (by decide) (va_Nw.use rfl (hN _ q290 rfl)) (fun _ h9 => h9) rfl dX3_rate_5 ?_
  refine lv_lconst (v := 1) hx hb dX3_rate_8 (by decide) ?_
  refine lv_ladd hx hb dX3_rate_9 ?_
  refine va_putN (D := (g.1, g.2.1)) (ci := 0) (v := .long (S.2.2.2.1 + 1)) (ty := .long) (C := RX0) (T := TX0) (N := 20) hx hb hts in_X0 tyX0 tyX0_ok nmX0 hown hK hP hD hS 0 rfl rfl 18 (by decide) (va_Nw.use rfl (hN _ q290 rfl)) (fun _ h9 => h9) rfl (by decide +kernel) rfl rfl (Nat.le_of_ble_eq_true rfl) dX3_rate_10 (fun H locs hP hD hS => ?_)
  obtain ⟨S_1, eS_1, hf⟩ := sm_lt_e hf
  have hP : PP g (WX g ad S_1) H := by rw [eS_1]; exact pxf18 hP
  have hD : va_D (AX ad) (WX g ad S_1) := by rw [eS_1]; exact dxf18 hD
  refine lv_aload_n hx hb dX3_rate_13 rfl (lv_at hl 0 rfl) ?_
  refine va_get (D := (g.1, g.2.1)) (ci := 5) (v := .ref (ad 0)) (C := RX5) (T := TX5) (N := 2) hx hb hts in_X5 hown hK hP 25 rfl rfl 0 (by decide) (hts _ q203) (fun _ h9 => h9) rfl dX3_rate_14 ?_
  refine va_getN (D := (g.1, g.2.1)) (ci := 0) (v := .ref (ad 1)) (C := RX0) (T := TX0) (N := 20) hx hb hts in_X0 hown hK hP 0 rfl rfl 0 (by decide) (va_Nw.use rfl (hN _ q266 rfl)) (fun _ h9 => h9) rfl dX3_rate_17 ?_
  refine va_getN (D := (g.1, g.2.1)) (ci := 1) (v := .ref (ad 5)) (C := RX1) (T := TX1) (N := 9) hx hb hts in_X1 hown hK hP 1 rfl rfl 3 (by decide) (va_Nw.use rfl (hN _ q109 rfl)) (fun _ h9 => h9) rfl dX3_rate_20 ?_
  refine lv_iload_n hx hb dX3_rate_23 rfl (lv_at hl 1 rfl) ?_
  obtain ⟨hg, hf⟩ := sm_gd_e hf
  refine va_iald hx hb hK hP 5 0 rfl rfl (sm_in hg) dX3_rate_24 ?_
  refine vp_callSi (W.runS (As := [.int (S_1.2.2.2.2.1.2 3 a1.toNatClampNeg)]) (rest := []) ⟨hx, hb, hml, hown, hts⟩ (wJ10_bitCount l (S_1.2.2.2.2.1.2 3 a1.toNatClampNeg) (fJ10_bitCount (S_1.2.2.2.2.1.2 3 a1.toNatClampNeg)) rfl) (va_cwS 1 hts (lw_S q832 q654 q83 q655) rfl rfl rfl (by decide +kernel) ⟨Nat.le_of_ble_eq_true rfl, Nat.le_of_ble_eq_true rfl⟩) (sm_ps) rfl rfl hl.1 rfl (lv_room (Nat.le_of_ble_eq_true rfl)) dX3_rate_25 ⟨Nat.le_of_ble_eq_true rfl, Nat.le_of_ble_eq_true rfl⟩) (fun r_3 er_2 => ?_)
  have er_2 := er_2.symm
  subst er_2
  have hf := Option.some.inj hf
  rw [← hQ]
  have hf := Prod.mk.inj hf
  exact W.iret (v := fJ10_bitCount (S_1.2.2.2.2.1.2 3 a1.toNatClampNeg)) hx hb hr (fun t ht hW => ⟨⟨_, (), rfl, hf.2, by rw [ht, ← hf.1]; exact hP, by rw [← hf.1]; exact hD⟩, hS.F ht⟩) hS.2.2 dX3_rate_28
abbrev rX3_rate_26 : Room := { frames := 1, cells := 0, slots := 0, locals := 20 }
set_option maxHeartbeats 4000000 in
theorem wX3_rate_26 (l : Launch) (g : GG) (ad : Nat → Nat) (S : XS) (a1 : Int32) (Sf : XS) (rf : Int32) (hf : fX3_rate_26 S a1 = some (Sf, rf)) : Met l yX3_rate (ws_ yX3_rate cX3_rate 2 (some .int)) rX3_rate_26 (va_Pc [.ref (ad 26), .int a1] (fun Ux => PP g (WX g ad S) Ux.heap ∧ EV g Ux ∧ va_D (AX ad) (WX g ad S))) (va_Qi (fun y (_ : Unit) => y = rf) (fun _ t => PP g (WX g ad Sf) t.heap ∧ va_D (AX ad) (WX g ad Sf)) (AX ad)) 0 0 (AX ad) := by
  refine sm_st (by decide) ?_
  intro p e s m args below meth c hx hb hr hlocks hml hown hnm hts hv
  obtain ⟨hargs, hP, hE, hD⟩ := hv
  obtain ⟨hK, hN⟩ := id hE
  have hS : va_S (AX ad) s.heap s.heap [] := va_S.rf
  have hown : s.vm.findClass RX3 = some m.cls := hown
  refine sm_en _ (Nat.le_of_ble_eq_true rfl) hargs (fun ls hl => ?_)
  have hl : lv_has ls 2 [(0, .ref (ad 26)), (1, .int a1)] := hl
  generalize hQ : MQ below _ args s _ _ _ = Q
  unfold fX3_rate_26 at hf
  refine lv_aload_n hx hb dX3_rate_0 rfl (lv_at hl 0 rfl) ?_
  refine va_get (D := (g.1, g.2.1)) (ci := 6) (v := .ref (ad 0)) (C := RX6) (T := TX6) (N := 3) hx hb hts in_X6 hown hK hP 26 rfl rfl 0 (by decide) (hts _ q203) (fun _ h9 => h9) rfl dX3_rate_1 ?_
  refine lv_dup hx hb dX3_rate_4 rfl ?_
  refine va_getN (D := (g.1, g.2.1)) (ci := 0) (v := .long S.2.2.2.1) (C := RX0) (T := TX0) (N := 20) hx hb hts in_X0 hown hK hP 0 rfl rfl 18 (by decide) (va_Nw.use rfl (hN _ q290 rfl)) (fun _ h9 => h9) rfl dX3_rate_5 ?_
  refine lv_lconst (v := 1) hx hb dX3_rate_8 (by decide) ?_
  refine lv_ladd hx hb dX3_rate_9 ?_
  refine va_putN (D := (g.1, g.2.1)) (ci := 0) (v := .long (S.2.2.2.1 + 1)) (ty := .long) (C := RX0) (T := TX0) (N := 20) hx hb hts in_X0 tyX0 tyX0_ok nmX0 hown hK hP hD hS 0 rfl rfl 18 (by decide) (va_Nw.use rfl (hN _ q290 rfl)) (fun _ h9 => h9) rfl (by decide +kernel) rfl rfl (Nat.le_of_ble_eq_true rfl) dX3_rate_10 (fun H locs hP hD hS => ?_)
  obtain ⟨S_1, eS_1, hf⟩ := sm_lt_e hf
  have hP : PP g (WX g ad S_1) H := by rw [eS_1]; exact pxf18 hP
  have hD : va_D (AX ad) (WX g ad S_1) := by rw [eS_1]; exact dxf18 hD
  refine lv_aload_n hx hb dX3_rate_13 rfl (lv_at hl 0 rfl) ?_
  refine va_get (D := (g.1, g.2.1)) (ci := 6) (v := .ref (ad 0)) (C := RX6) (T := TX6) (N := 3) hx hb hts in_X6 hown hK hP 26 rfl rfl 0 (by decide) (hts _ q203) (fun _ h9 => h9) rfl dX3_rate_14 ?_
  refine va_getN (D := (g.1, g.2.1)) (ci := 0) (v := .ref (ad 1)) (C := RX0) (T := TX0) (N := 20) hx hb hts in_X0 hown hK hP 0 rfl rfl 0 (by decide) (va_Nw.use rfl (hN _ q266 rfl)) (fun _ h9 => h9) rfl dX3_rate_17 ?_
  refine va_getN (D := (g.1, g.2.1)) (ci := 1) (v := .ref (ad 5)) (C := RX1) (T := TX1) (N := 9) hx hb hts in_X1 hown hK hP 1 rfl rfl 3 (by decide) (va_Nw.use rfl (hN _ q109 rfl)) (fun _ h9 => h9) rfl dX3_rate_20 ?_
  refine lv_iload_n hx hb dX3_rate_23 rfl (lv_at hl 1 rfl) ?_
  obtain ⟨hg, hf⟩ := sm_gd_e hf
  refine va_iald hx hb hK hP 5 0 rfl rfl (sm_in hg) dX3_rate_24 ?_
  refine vp_callSi (W.runS (As := [.int (S_1.2.2.2.2.1.2 3 a1.toNatClampNeg)]) (rest := []) ⟨hx, hb, hml, hown, hts⟩ (wJ10_bitCount l (S_1.2.2.2.2.1.2 3 a1.toNatClampNeg) (fJ10_bitCount (S_1.2.2.2.2.1.2 3 a1.toNatClampNeg)) rfl) (va_cwS 1 hts (lw_S q832 q654 q83 q655) rfl rfl rfl (by decide +kernel) ⟨Nat.le_of_ble_eq_true rfl, Nat.le_of_ble_eq_true rfl⟩) (sm_ps) rfl rfl hl.1 rfl (lv_room (Nat.le_of_ble_eq_true rfl)) dX3_rate_25 ⟨Nat.le_of_ble_eq_true rfl, Nat.le_of_ble_eq_true rfl⟩) (fun r_3 er_2 => ?_)
  have er_2 := er_2.symm
  subst er_2
  have hf := Option.some.inj hf
  rw [← hQ]
  have hf := Prod.mk.inj hf
  exact W.iret (v := fJ10_bitCount (S_1.2.2.2.2.1.2 3 a1.toNatClampNeg)) hx hb hr (fun t ht hW => ⟨⟨_, (), rfl, hf.2, by rw [ht, ← hf.1]; exact hP, by rw [← hf.1]; exact hD⟩, hS.F ht⟩) hS.2.2 dX3_rate_28
abbrev rX3_rate_27 : Room := { frames := 1, cells := 0, slots := 0, locals := 20 }
set_option maxHeartbeats 4000000 in
theorem wX3_rate_27 (l : Launch) (g : GG) (ad : Nat → Nat) (S : XS) (a1 : Int32) (Sf : XS) (rf : Int32) (hf : fX3_rate_27 S a1 = some (Sf, rf)) : Met l yX3_rate (ws_ yX3_rate cX3_rate 2 (some .int)) rX3_rate_27 (va_Pc [.ref (ad 27), .int a1] (fun Ux => PP g (WX g ad S) Ux.heap ∧ EV g Ux ∧ va_D (AX ad) (WX g ad S))) (va_Qi (fun y (_ : Unit) => y = rf) (fun _ t => PP g (WX g ad Sf) t.heap ∧ va_D (AX ad) (WX g ad Sf)) (AX ad)) 0 0 (AX ad) := by
  refine sm_st (by decide) ?_
  intro p e s m args below meth c hx hb hr hlocks hml hown hnm hts hv
  obtain ⟨hargs, hP, hE, hD⟩ := hv
  obtain ⟨hK, hN⟩ := id hE
  have hS : va_S (AX ad) s.heap s.heap [] := va_S.rf
  have hown : s.vm.findClass RX3 = some m.cls := hown
  refine sm_en _ (Nat.le_of_ble_eq_true rfl) hargs (fun ls hl => ?_)
  have hl : lv_has ls 2 [(0, .ref (ad 27)), (1, .int a1)] := hl
  generalize hQ : MQ below _ args s _ _ _ = Q
  unfold fX3_rate_27 at hf
  refine lv_aload_n hx hb dX3_rate_0 rfl (lv_at hl 0 rfl) ?_
  refine va_get (D := (g.1, g.2.1)) (ci := 7) (v := .ref (ad 0)) (C := RX7) (T := TX7) (N := 3) hx hb hts in_X7 hown hK hP 27 rfl rfl 0 (by decide) (hts _ q203) (fun _ h9 => h9) rfl dX3_rate_1 ?_
  refine lv_dup hx hb dX3_rate_4 rfl ?_
  refine va_getN (D := (g.1, g.2.1)) (ci := 0) (v := .long S.2.2.2.1) (C := RX0) (T := TX0) (N := 20) hx hb hts in_X0 hown hK hP 0 rfl rfl 18 (by decide) (va_Nw.use rfl (hN _ q290 rfl)) (fun _ h9 => h9) rfl dX3_rate_5 ?_
  refine lv_lconst (v := 1) hx hb dX3_rate_8 (by decide) ?_
  refine lv_ladd hx hb dX3_rate_9 ?_
  refine va_putN (D := (g.1, g.2.1)) (ci := 0) (v := .long (S.2.2.2.1 + 1)) (ty := .long) (C := RX0) (T := TX0) (N := 20) hx hb hts in_X0 tyX0 tyX0_ok nmX0 hown hK hP hD hS 0 rfl rfl 18 (by decide) (va_Nw.use rfl (hN _ q290 rfl)) (fun _ h9 => h9) rfl (by decide +kernel) rfl rfl (Nat.le_of_ble_eq_true rfl) dX3_rate_10 (fun H locs hP hD hS => ?_)
  obtain ⟨S_1, eS_1, hf⟩ := sm_lt_e hf
  have hP : PP g (WX g ad S_1) H := by rw [eS_1]; exact pxf18 hP
  have hD : va_D (AX ad) (WX g ad S_1) := by rw [eS_1]; exact dxf18 hD
  refine lv_aload_n hx hb dX3_rate_13 rfl (lv_at hl 0 rfl) ?_
  refine va_get (D := (g.1, g.2.1)) (ci := 7) (v := .ref (ad 0)) (C := RX7) (T := TX7) (N := 3) hx hb hts in_X7 hown hK hP 27 rfl rfl 0 (by decide) (hts _ q203) (fun _ h9 => h9) rfl dX3_rate_14 ?_
  refine va_getN (D := (g.1, g.2.1)) (ci := 0) (v := .ref (ad 1)) (C := RX0) (T := TX0) (N := 20) hx hb hts in_X0 hown hK hP 0 rfl rfl 0 (by decide) (va_Nw.use rfl (hN _ q266 rfl)) (fun _ h9 => h9) rfl dX3_rate_17 ?_
  refine va_getN (D := (g.1, g.2.1)) (ci := 1) (v := .ref (ad 5)) (C := RX1) (T := TX1) (N := 9) hx hb hts in_X1 hown hK hP 1 rfl rfl 3 (by decide) (va_Nw.use rfl (hN _ q109 rfl)) (fun _ h9 => h9) rfl dX3_rate_20 ?_
  refine lv_iload_n hx hb dX3_rate_23 rfl (lv_at hl 1 rfl) ?_
  obtain ⟨hg, hf⟩ := sm_gd_e hf
  refine va_iald hx hb hK hP 5 0 rfl rfl (sm_in hg) dX3_rate_24 ?_
  refine vp_callSi (W.runS (As := [.int (S_1.2.2.2.2.1.2 3 a1.toNatClampNeg)]) (rest := []) ⟨hx, hb, hml, hown, hts⟩ (wJ10_bitCount l (S_1.2.2.2.2.1.2 3 a1.toNatClampNeg) (fJ10_bitCount (S_1.2.2.2.2.1.2 3 a1.toNatClampNeg)) rfl) (va_cwS 1 hts (lw_S q832 q654 q83 q655) rfl rfl rfl (by decide +kernel) ⟨Nat.le_of_ble_eq_true rfl, Nat.le_of_ble_eq_true rfl⟩) (sm_ps) rfl rfl hl.1 rfl (lv_room (Nat.le_of_ble_eq_true rfl)) dX3_rate_25 ⟨Nat.le_of_ble_eq_true rfl, Nat.le_of_ble_eq_true rfl⟩) (fun r_3 er_2 => ?_)
  have er_2 := er_2.symm
  subst er_2
  have hf := Option.some.inj hf
  rw [← hQ]
  have hf := Prod.mk.inj hf
  exact W.iret (v := fJ10_bitCount (S_1.2.2.2.2.1.2 3 a1.toNatClampNeg)) hx hb hr (fun t ht hW => ⟨⟨_, (), rfl, hf.2, by rw [ht, ← hf.1]; exact hP, by rw [← hf.1]; exact hD⟩, hS.F ht⟩) hS.2.2 dX3_rate_28
abbrev rX3_rate_28 : Room := { frames := 1, cells := 0, slots := 0, locals := 20 }
set_option maxHeartbeats 4000000 in
theorem wX3_rate_28 (l : Launch) (g : GG) (ad : Nat → Nat) (S : XS) (a1 : Int32) (Sf : XS) (rf : Int32) (hf : fX3_rate_28 S a1 = some (Sf, rf)) : Met l yX3_rate (ws_ yX3_rate cX3_rate 2 (some .int)) rX3_rate_28 (va_Pc [.ref (ad 28), .int a1] (fun Ux => PP g (WX g ad S) Ux.heap ∧ EV g Ux ∧ va_D (AX ad) (WX g ad S))) (va_Qi (fun y (_ : Unit) => y = rf) (fun _ t => PP g (WX g ad Sf) t.heap ∧ va_D (AX ad) (WX g ad Sf)) (AX ad)) 0 0 (AX ad) := by
  refine sm_st (by decide) ?_
  intro p e s m args below meth c hx hb hr hlocks hml hown hnm hts hv
  obtain ⟨hargs, hP, hE, hD⟩ := hv
  obtain ⟨hK, hN⟩ := id hE
  have hS : va_S (AX ad) s.heap s.heap [] := va_S.rf
  have hown : s.vm.findClass RX3 = some m.cls := hown
  refine sm_en _ (Nat.le_of_ble_eq_true rfl) hargs (fun ls hl => ?_)
  have hl : lv_has ls 2 [(0, .ref (ad 28)), (1, .int a1)] := hl
  generalize hQ : MQ below _ args s _ _ _ = Q
  unfold fX3_rate_28 at hf
  refine lv_aload_n hx hb dX3_rate_0 rfl (lv_at hl 0 rfl) ?_
  refine va_get (D := (g.1, g.2.1)) (ci := 8) (v := .ref (ad 0)) (C := RX8) (T := TX8) (N := 2) hx hb hts in_X8 hown hK hP 28 rfl rfl 0 (by decide) (hts _ q203) (fun _ h9 => h9) rfl dX3_rate_1 ?_
  refine lv_dup hx hb dX3_rate_4 rfl ?_
  refine va_getN (D := (g.1, g.2.1)) (ci := 0) (v := .long S.2.2.2.1) (C := RX0) (T := TX0) (N := 20) hx hb hts in_X0 hown hK hP 0 rfl rfl 18 (by decide) (va_Nw.use rfl (hN _ q290 rfl)) (fun _ h9 => h9) rfl dX3_rate_5 ?_
  refine lv_lconst (v := 1) hx hb dX3_rate_8 (by decide) ?_
  refine lv_ladd hx hb dX3_rate_9 ?_
  refine va_putN (D := (g.1, g.2.1)) (ci := 0) (v := .long (S.2.2.2.1 + 1)) (ty := .long) (C := RX0) (T := TX0) (N := 20) hx hb hts in_X0 tyX0 tyX0_ok nmX0 hown hK hP hD hS 0 rfl rfl 18 (by decide) (va_Nw.use rfl (hN _ q290 rfl)) (fun _ h9 => h9) rfl (by decide +kernel) rfl rfl (Nat.le_of_ble_eq_true rfl) dX3_rate_10 (fun H locs hP hD hS => ?_)
  obtain ⟨S_1, eS_1, hf⟩ := sm_lt_e hf
  have hP : PP g (WX g ad S_1) H := by rw [eS_1]; exact pxf18 hP
  have hD : va_D (AX ad) (WX g ad S_1) := by rw [eS_1]; exact dxf18 hD
  refine lv_aload_n hx hb dX3_rate_13 rfl (lv_at hl 0 rfl) ?_
  refine va_get (D := (g.1, g.2.1)) (ci := 8) (v := .ref (ad 0)) (C := RX8) (T := TX8) (N := 2) hx hb hts in_X8 hown hK hP 28 rfl rfl 0 (by decide) (hts _ q203) (fun _ h9 => h9) rfl dX3_rate_14 ?_
  refine va_getN (D := (g.1, g.2.1)) (ci := 0) (v := .ref (ad 1)) (C := RX0) (T := TX0) (N := 20) hx hb hts in_X0 hown hK hP 0 rfl rfl 0 (by decide) (va_Nw.use rfl (hN _ q266 rfl)) (fun _ h9 => h9) rfl dX3_rate_17 ?_
  refine va_getN (D := (g.1, g.2.1)) (ci := 1) (v := .ref (ad 5)) (C := RX1) (T := TX1) (N := 9) hx hb hts in_X1 hown hK hP 1 rfl rfl 3 (by decide) (va_Nw.use rfl (hN _ q109 rfl)) (fun _ h9 => h9) rfl dX3_rate_20 ?_
  refine lv_iload_n hx hb dX3_rate_23 rfl (lv_at hl 1 rfl) ?_
  obtain ⟨hg, hf⟩ := sm_gd_e hf
  refine va_iald hx hb hK hP 5 0 rfl rfl (sm_in hg) dX3_rate_24 ?_
  refine vp_callSi (W.runS (As := [.int (S_1.2.2.2.2.1.2 3 a1.toNatClampNeg)]) (rest := []) ⟨hx, hb, hml, hown, hts⟩ (wJ10_bitCount l (S_1.2.2.2.2.1.2 3 a1.toNatClampNeg) (fJ10_bitCount (S_1.2.2.2.2.1.2 3 a1.toNatClampNeg)) rfl) (va_cwS 1 hts (lw_S q832 q654 q83 q655) rfl rfl rfl (by decide +kernel) ⟨Nat.le_of_ble_eq_true rfl, Nat.le_of_ble_eq_true rfl⟩) (sm_ps) rfl rfl hl.1 rfl (lv_room (Nat.le_of_ble_eq_true rfl)) dX3_rate_25 ⟨Nat.le_of_ble_eq_true rfl, Nat.le_of_ble_eq_true rfl⟩) (fun r_3 er_2 => ?_)
  have er_2 := er_2.symm
  subst er_2
  have hf := Option.some.inj hf
  rw [← hQ]
  have hf := Prod.mk.inj hf
  exact W.iret (v := fJ10_bitCount (S_1.2.2.2.2.1.2 3 a1.toNatClampNeg)) hx hb hr (fun t ht hW => ⟨⟨_, (), rfl, hf.2, by rw [ht, ← hf.1]; exact hP, by rw [← hf.1]; exact hD⟩, hS.F ht⟩) hS.2.2 dX3_rate_28
abbrev rX4_rate_24 : Room := { frames := 2, cells := 0, slots := 0, locals := 41 }
set_option maxHeartbeats 4000000 in
theorem wX4_rate_24 (l : Launch) (g : GG) (ad : Nat → Nat) (S : XS) (a1 : Int32) (Sf : XS) (rf : Int32) (hf : fX4_rate_24 S a1 = some (Sf, rf)) : Met l yX4_rate (ws_ yX4_rate cX4_rate 2 (some .int)) rX4_rate_24 (va_Pc [.ref (ad 24), .int a1] (fun Ux => PP g (WX g ad S) Ux.heap ∧ EV g Ux ∧ va_D (AX ad) (WX g ad S))) (va_Qi (fun y (_ : Unit) => y = rf) (fun _ t => PP g (WX g ad Sf) t.heap ∧ va_D (AX ad) (WX g ad Sf)) (AX ad)) 0 0 (AX ad) := by
  refine sm_st (by decide) ?_
  intro p e s m args below meth c hx hb hr hlocks hml hown hnm hts hv
  obtain ⟨hargs, hP, hE, hD⟩ := hv
  obtain ⟨hK, hN⟩ := id hE
  have hS : va_S (AX ad) s.heap s.heap [] := va_S.rf
  have hown : s.vm.findClass RX4 = some m.cls := hown
  refine sm_en _ (Nat.le_of_ble_eq_true rfl) hargs (fun ls hl => ?_)
  have hl : lv_has ls 2 [(0, .ref (ad 24)), (1, .int a1)] := hl
  generalize hQ : MQ below _ args s _ _ _ = Q
  unfold fX4_rate_24 at hf
  refine lv_aload_n hx hb dX4_rate_0 rfl (lv_at hl 0 rfl) ?_
  refine va_get (D := (g.1, g.2.1)) (ci := 4) (v := .ref (ad 0)) (C := RX4) (T := TX4) (N := 2) hx hb hts in_X4 hown hK hP 24 rfl rfl 1 (by decide) (hts _ q215) (fun _ h9 => h9) rfl dX4_rate_1 ?_
  refine lv_dup hx hb dX4_rate_4 rfl ?_
  refine va_getN (D := (g.1, g.2.1)) (ci := 0) (v := .long S.2.2.2.1) (C := RX0) (T := TX0) (N := 20) hx hb hts in_X0 hown hK hP 0 rfl rfl 18 (by decide) (va_Nw.use rfl (hN _ q292 rfl)) (fun _ h9 => h9) rfl dX4_rate_5 ?_
  refine lv_ldc2 (v := 10) hx hb hown (hts _ q812) dX4_rate_8 ?_
  refine lv_ladd hx hb dX4_rate_11 ?_
  refine va_putN (D := (g.1, g.2.1)) (ci := 0) (v := .long (S.2.2.2.1 + 10)) (ty := .long) (C := RX0) (T := TX0) (N := 20) hx hb hts in_X0 tyX0 tyX0_ok nmX0 hown hK hP hD hS 0 rfl rfl 18 (by decide) (va_Nw.use rfl (hN _ q292 rfl)) (fun _ h9 => h9) rfl (by decide +kernel) rfl rfl (Nat.le_of_ble_eq_true rfl) dX4_rate_12 (fun H locs hP hD hS => ?_)
  obtain ⟨S_1, eS_1, hf⟩ := sm_lt_e hf
  have hP : PP g (WX g ad S_1) H := by rw [eS_1]; exact pxf18 hP
  have hD : va_D (AX ad) (WX g ad S_1) := by rw [eS_1]; exact dxf18 hD
  refine lv_aload_n hx hb dX4_rate_15 rfl (lv_at hl 0 rfl) ?_
  refine lv_iload_n hx hb dX4_rate_16 rfl (lv_at hl 1 rfl) ?_
  obtain ⟨S_2, r_4, h_3, hf⟩ := sm_b2_e hf
  refine va_calli (va_runSU (C := RX4) (sm_cat hK (ci := 4) rfl) (As := [.int a1]) (rest := []) ⟨hx, hb, hml, hown, hts⟩ (wX3_rate_24 l g ad S_1 a1 S_2 r_4 h_3) (va_cwSU 1 hts (lw_SU q813 q804 q219 q802 q64 q831) rfl rfl rfl (by decide +kernel) ⟨Nat.le_of_ble_eq_true rfl, Nat.le_of_ble_eq_true rfl⟩) (sm_pe hE hP hD (va_recv hK hP (ci := 4) (q0 := 24) rfl rfl)) rfl rfl hl.1 rfl (lv_room (Nat.le_of_ble_eq_true rfl)) dX4_rate_17 ⟨Nat.le_of_ble_eq_true rfl, Nat.le_of_ble_eq_true rfl⟩) hS (fun _ _ h => h) (fun _ h => h) (fun r_6 u t H locs ht hvm er_5 hB hz hk hS => ?_)
  have er_5 := er_5.symm
  subst er_5
  obtain ⟨hP, hD⟩ := hB
  rw [ht] at hP
  refine lv_aload_n hx hb dX4_rate_20 rfl (lv_at hl 0 rfl) ?_
  refine va_get (D := (g.1, g.2.1)) (ci := 4) (v := .ref (ad 0)) (C := RX4) (T := TX4) (N := 2) hx hb hts in_X4 hown hK hP 24 rfl rfl 1 (by decide) (hts _ q215) (fun _ h9 => h9) rfl dX4_rate_21 ?_
  refine va_getN (D := (g.1, g.2.1)) (ci := 0) (v := .ref (ad 1)) (C := RX0) (T := TX0) (N := 20) hx hb hts in_X0 hown hK hP 0 rfl rfl 0 (by decide) (va_Nw.use rfl (hN _ q267 rfl)) (fun _ h9 => h9) rfl dX4_rate_24 ?_
  refine va_getN (D := (g.1, g.2.1)) (ci := 1) (v := .ref (ad 6)) (C := RX1) (T := TX1) (N := 9) hx hb hts in_X1 hown hK hP 1 rfl rfl 4 (by decide) (va_Nw.use rfl (hN _ q113 rfl)) (fun _ h9 => h9) rfl dX4_rate_27 ?_
  refine lv_iload_n hx hb dX4_rate_30 rfl (lv_at hl 1 rfl) ?_
  obtain ⟨hg, hf⟩ := sm_gd_e hf
  refine va_iald hx hb hK hP 6 0 rfl rfl (sm_in hg) dX4_rate_31 ?_
  refine lv_iadd hx hb dX4_rate_32 ?_
  have hf := Option.some.inj hf
  rw [← hQ]
  have hf := Prod.mk.inj hf
  exact W.iret (v := r_4 + (S_2.2.2.2.2.1.2 4 a1.toNatClampNeg)) hx hb hr (fun t ht hW => ⟨⟨_, (), rfl, hf.2, by rw [ht, ← hf.1]; exact hP, by rw [← hf.1]; exact hD⟩, hS.F ht⟩) hS.2.2 dX4_rate_33
abbrev rX4_rate_26 : Room := { frames := 2, cells := 0, slots := 0, locals := 41 }
set_option maxHeartbeats 4000000 in
theorem wX4_rate_26 (l : Launch) (g : GG) (ad : Nat → Nat) (S : XS) (a1 : Int32) (Sf : XS) (rf : Int32) (hf : fX4_rate_26 S a1 = some (Sf, rf)) : Met l yX4_rate (ws_ yX4_rate cX4_rate 2 (some .int)) rX4_rate_26 (va_Pc [.ref (ad 26), .int a1] (fun Ux => PP g (WX g ad S) Ux.heap ∧ EV g Ux ∧ va_D (AX ad) (WX g ad S))) (va_Qi (fun y (_ : Unit) => y = rf) (fun _ t => PP g (WX g ad Sf) t.heap ∧ va_D (AX ad) (WX g ad Sf)) (AX ad)) 0 0 (AX ad) := by
  refine sm_st (by decide) ?_
  intro p e s m args below meth c hx hb hr hlocks hml hown hnm hts hv
  obtain ⟨hargs, hP, hE, hD⟩ := hv
  obtain ⟨hK, hN⟩ := id hE
  have hS : va_S (AX ad) s.heap s.heap [] := va_S.rf
  have hown : s.vm.findClass RX4 = some m.cls := hown
  refine sm_en _ (Nat.le_of_ble_eq_true rfl) hargs (fun ls hl => ?_)
  have hl : lv_has ls 2 [(0, .ref (ad 26)), (1, .int a1)] := hl
  generalize hQ : MQ below _ args s _ _ _ = Q
  unfold fX4_rate_26 at hf
  refine lv_aload_n hx hb dX4_rate_0 rfl (lv_at hl 0 rfl) ?_
  refine va_get (D := (g.1, g.2.1)) (ci := 6) (v := .ref (ad 0)) (C := RX6) (T := TX6) (N := 3) hx hb hts in_X6 hown hK hP 26 rfl rfl 1 (by decide) (hts _ q215) (fun _ h9 => h9) rfl dX4_rate_1 ?_
  refine lv_dup hx hb dX4_rate_4 rfl ?_
  refine va_getN (D := (g.1, g.2.1)) (ci := 0) (v := .long S.2.2.2.1) (C := RX0) (T := TX0) (N := 20) hx hb hts in_X0 hown hK hP 0 rfl rfl 18 (by decide) (va_Nw.use rfl (hN _ q292 rfl)) (fun _ h9 => h9) rfl dX4_rate_5 ?_
  refine lv_ldc2 (v := 10) hx hb hown (hts _ q812) dX4_rate_8 ?_
  refine lv_ladd hx hb dX4_rate_11 ?_
  refine va_putN (D := (g.1, g.2.1)) (ci := 0) (v := .long (S.2.2.2.1 + 10)) (ty := .long) (C := RX0) (T := TX0) (N := 20) hx hb hts in_X0 tyX0 tyX0_ok nmX0 hown hK hP hD hS 0 rfl rfl 18 (by decide) (va_Nw.use rfl (hN _ q292 rfl)) (fun _ h9 => h9) rfl (by decide +kernel) rfl rfl (Nat.le_of_ble_eq_true rfl) dX4_rate_12 (fun H locs hP hD hS => ?_)
  obtain ⟨S_1, eS_1, hf⟩ := sm_lt_e hf
  have hP : PP g (WX g ad S_1) H := by rw [eS_1]; exact pxf18 hP
  have hD : va_D (AX ad) (WX g ad S_1) := by rw [eS_1]; exact dxf18 hD
  refine lv_aload_n hx hb dX4_rate_15 rfl (lv_at hl 0 rfl) ?_
  refine lv_iload_n hx hb dX4_rate_16 rfl (lv_at hl 1 rfl) ?_
  obtain ⟨S_2, r_4, h_3, hf⟩ := sm_b2_e hf
  refine va_calli (va_runSU (C := RX6) (sm_cat hK (ci := 6) rfl) (As := [.int a1]) (rest := []) ⟨hx, hb, hml, hown, hts⟩ (wX3_rate_26 l g ad S_1 a1 S_2 r_4 h_3) (va_cwSU 1 hts (lw_SU q813 q804 q219 q802 q64 q831) rfl rfl rfl (by decide +kernel) ⟨Nat.le_of_ble_eq_true rfl, Nat.le_of_ble_eq_true rfl⟩) (sm_pe hE hP hD (va_recv hK hP (ci := 6) (q0 := 26) rfl rfl)) rfl rfl hl.1 rfl (lv_room (Nat.le_of_ble_eq_true rfl)) dX4_rate_17 ⟨Nat.le_of_ble_eq_true rfl, Nat.le_of_ble_eq_true rfl⟩) hS (fun _ _ h => h) (fun _ h => h) (fun r_6 u t H locs ht hvm er_5 hB hz hk hS => ?_)
  have er_5 := er_5.symm
  subst er_5
  obtain ⟨hP, hD⟩ := hB
  rw [ht] at hP
  refine lv_aload_n hx hb dX4_rate_20 rfl (lv_at hl 0 rfl) ?_
  refine va_get (D := (g.1, g.2.1)) (ci := 6) (v := .ref (ad 0)) (C := RX6) (T := TX6) (N := 3) hx hb hts in_X6 hown hK hP 26 rfl rfl 1 (by decide) (hts _ q215) (fun _ h9 => h9) rfl dX4_rate_21 ?_
  refine va_getN (D := (g.1, g.2.1)) (ci := 0) (v := .ref (ad 1)) (C := RX0) (T := TX0) (N := 20) hx hb hts in_X0 hown hK hP 0 rfl rfl 0 (by decide) (va_Nw.use rfl (hN _ q267 rfl)) (fun _ h9 => h9) rfl dX4_rate_24 ?_
  refine va_getN (D := (g.1, g.2.1)) (ci := 1) (v := .ref (ad 6)) (C := RX1) (T := TX1) (N := 9) hx hb hts in_X1 hown hK hP 1 rfl rfl 4 (by decide) (va_Nw.use rfl (hN _ q113 rfl)) (fun _ h9 => h9) rfl dX4_rate_27 ?_
  refine lv_iload_n hx hb dX4_rate_30 rfl (lv_at hl 1 rfl) ?_
  obtain ⟨hg, hf⟩ := sm_gd_e hf
  refine va_iald hx hb hK hP 6 0 rfl rfl (sm_in hg) dX4_rate_31 ?_
  refine lv_iadd hx hb dX4_rate_32 ?_
  have hf := Option.some.inj hf
  rw [← hQ]
  have hf := Prod.mk.inj hf
  exact W.iret (v := r_4 + (S_2.2.2.2.2.1.2 4 a1.toNatClampNeg)) hx hb hr (fun t ht hW => ⟨⟨_, (), rfl, hf.2, by rw [ht, ← hf.1]; exact hP, by rw [← hf.1]; exact hD⟩, hS.F ht⟩) hS.2.2 dX4_rate_33
abbrev rX5_rate_25 : Room := { frames := 2, cells := 0, slots := 0, locals := 41 }
set_option maxHeartbeats 4000000 in
theorem wX5_rate_25 (l : Launch) (g : GG) (ad : Nat → Nat) (S : XS) (a1 : Int32) (Sf : XS) (rf : Int32) (hf : fX5_rate_25 S a1 = some (Sf, rf)) : Met l yX5_rate (ws_ yX5_rate cX5_rate 2 (some .int)) rX5_rate_25 (va_Pc [.ref (ad 25), .int a1] (fun Ux => PP g (WX g ad S) Ux.heap ∧ EV g Ux ∧ va_D (AX ad) (WX g ad S))) (va_Qi (fun y (_ : Unit) => y = rf) (fun _ t => PP g (WX g ad Sf) t.heap ∧ va_D (AX ad) (WX g ad Sf)) (AX ad)) 0 0 (AX ad) := by
  refine sm_st (by decide) ?_
  intro p e s m args below meth c hx hb hr hlocks hml hown hnm hts hv
  obtain ⟨hargs, hP, hE, hD⟩ := hv
  obtain ⟨hK, hN⟩ := id hE
  have hS : va_S (AX ad) s.heap s.heap [] := va_S.rf
  have hown : s.vm.findClass RX5 = some m.cls := hown
  refine sm_en _ (Nat.le_of_ble_eq_true rfl) hargs (fun ls hl => ?_)
  have hl : lv_has ls 2 [(0, .ref (ad 25)), (1, .int a1)] := hl
  generalize hQ : MQ below _ args s _ _ _ = Q
  unfold fX5_rate_25 at hf
  refine lv_aload_n hx hb dX5_rate_0 rfl (lv_at hl 0 rfl) ?_
  refine va_get (D := (g.1, g.2.1)) (ci := 5) (v := .ref (ad 0)) (C := RX5) (T := TX5) (N := 2) hx hb hts in_X5 hown hK hP 25 rfl rfl 1 (by decide) (hts _ q226) (fun _ h9 => h9) rfl dX5_rate_1 ?_
  refine lv_dup hx hb dX5_rate_4 rfl ?_
  refine va_getN (D := (g.1, g.2.1)) (ci := 0) (v := .long S.2.2.2.1) (C := RX0) (T := TX0) (N := 20) hx hb hts in_X0 hown hK hP 0 rfl rfl 18 (by decide) (va_Nw.use rfl (hN _ q294 rfl)) (fun _ h9 => h9) rfl dX5_rate_5 ?_
  refine lv_ldc2 (v := 100) hx hb hown (hts _ q821) dX5_rate_8 ?_
  refine lv_ladd hx hb dX5_rate_11 ?_
  refine va_putN (D := (g.1, g.2.1)) (ci := 0) (v := .long (S.2.2.2.1 + 100)) (ty := .long) (C := RX0) (T := TX0) (N := 20) hx hb hts in_X0 tyX0 tyX0_ok nmX0 hown hK hP hD hS 0 rfl rfl 18 (by decide) (va_Nw.use rfl (hN _ q294 rfl)) (fun _ h9 => h9) rfl (by decide +kernel) rfl rfl (Nat.le_of_ble_eq_true rfl) dX5_rate_12 (fun H locs hP hD hS => ?_)
  obtain ⟨S_1, eS_1, hf⟩ := sm_lt_e hf
  have hP : PP g (WX g ad S_1) H := by rw [eS_1]; exact pxf18 hP
  have hD : va_D (AX ad) (WX g ad S_1) := by rw [eS_1]; exact dxf18 hD
  refine lv_aload_n hx hb dX5_rate_15 rfl (lv_at hl 0 rfl) ?_
  refine lv_iload_n hx hb dX5_rate_16 rfl (lv_at hl 1 rfl) ?_
  obtain ⟨S_2, r_4, h_3, hf⟩ := sm_b2_e hf
  refine va_calli (va_runSU (C := RX5) (sm_cat hK (ci := 5) rfl) (As := [.int a1]) (rest := []) ⟨hx, hb, hml, hown, hts⟩ (wX3_rate_25 l g ad S_1 a1 S_2 r_4 h_3) (va_cwSU 1 hts (lw_SU q822 q804 q230 q802 q64 q831) rfl rfl rfl (by decide +kernel) ⟨Nat.le_of_ble_eq_true rfl, Nat.le_of_ble_eq_true rfl⟩) (sm_pe hE hP hD (va_recv hK hP (ci := 5) (q0 := 25) rfl rfl)) rfl rfl hl.1 rfl (lv_room (Nat.le_of_ble_eq_true rfl)) dX5_rate_17 ⟨Nat.le_of_ble_eq_true rfl, Nat.le_of_ble_eq_true rfl⟩) hS (fun _ _ h => h) (fun _ h => h) (fun r_6 u t H locs ht hvm er_5 hB hz hk hS => ?_)
  have er_5 := er_5.symm
  subst er_5
  obtain ⟨hP, hD⟩ := hB
  rw [ht] at hP
  refine lv_aload_n hx hb dX5_rate_20 rfl (lv_at hl 0 rfl) ?_
  refine va_get (D := (g.1, g.2.1)) (ci := 5) (v := .ref (ad 0)) (C := RX5) (T := TX5) (N := 2) hx hb hts in_X5 hown hK hP 25 rfl rfl 1 (by decide) (hts _ q226) (fun _ h9 => h9) rfl dX5_rate_21 ?_
  refine va_getN (D := (g.1, g.2.1)) (ci := 0) (v := .ref (ad 1)) (C := RX0) (T := TX0) (N := 20) hx hb hts in_X0 hown hK hP 0 rfl rfl 0 (by decide) (va_Nw.use rfl (hN _ q268 rfl)) (fun _ h9 => h9) rfl dX5_rate_24 ?_
  refine va_getN (D := (g.1, g.2.1)) (ci := 1) (v := .ref (ad 7)) (C := RX1) (T := TX1) (N := 9) hx hb hts in_X1 hown hK hP 1 rfl rfl 5 (by decide) (va_Nw.use rfl (hN _ q117 rfl)) (fun _ h9 => h9) rfl dX5_rate_27 ?_
  refine lv_iload_n hx hb dX5_rate_30 rfl (lv_at hl 1 rfl) ?_
  obtain ⟨hg, hf⟩ := sm_gd_e hf
  refine va_iald hx hb hK hP 7 0 rfl rfl (sm_in hg) dX5_rate_31 ?_
  refine lv_isub hx hb dX5_rate_32 ?_
  have hf := Option.some.inj hf
  rw [← hQ]
  have hf := Prod.mk.inj hf
  exact W.iret (v := r_4 - (S_2.2.2.2.2.1.2 5 a1.toNatClampNeg)) hx hb hr (fun t ht hW => ⟨⟨_, (), rfl, hf.2, by rw [ht, ← hf.1]; exact hP, by rw [← hf.1]; exact hD⟩, hS.F ht⟩) hS.2.2 dX5_rate_33
abbrev rX5_rate_27 : Room := { frames := 2, cells := 0, slots := 0, locals := 41 }
set_option maxHeartbeats 4000000 in
theorem wX5_rate_27 (l : Launch) (g : GG) (ad : Nat → Nat) (S : XS) (a1 : Int32) (Sf : XS) (rf : Int32) (hf : fX5_rate_27 S a1 = some (Sf, rf)) : Met l yX5_rate (ws_ yX5_rate cX5_rate 2 (some .int)) rX5_rate_27 (va_Pc [.ref (ad 27), .int a1] (fun Ux => PP g (WX g ad S) Ux.heap ∧ EV g Ux ∧ va_D (AX ad) (WX g ad S))) (va_Qi (fun y (_ : Unit) => y = rf) (fun _ t => PP g (WX g ad Sf) t.heap ∧ va_D (AX ad) (WX g ad Sf)) (AX ad)) 0 0 (AX ad) := by
  refine sm_st (by decide) ?_
  intro p e s m args below meth c hx hb hr hlocks hml hown hnm hts hv
  obtain ⟨hargs, hP, hE, hD⟩ := hv
  obtain ⟨hK, hN⟩ := id hE
  have hS : va_S (AX ad) s.heap s.heap [] := va_S.rf
  have hown : s.vm.findClass RX5 = some m.cls := hown
  refine sm_en _ (Nat.le_of_ble_eq_true rfl) hargs (fun ls hl => ?_)
  have hl : lv_has ls 2 [(0, .ref (ad 27)), (1, .int a1)] := hl
  generalize hQ : MQ below _ args s _ _ _ = Q
  unfold fX5_rate_27 at hf
  refine lv_aload_n hx hb dX5_rate_0 rfl (lv_at hl 0 rfl) ?_
  refine va_get (D := (g.1, g.2.1)) (ci := 7) (v := .ref (ad 0)) (C := RX7) (T := TX7) (N := 3) hx hb hts in_X7 hown hK hP 27 rfl rfl 1 (by decide) (hts _ q226) (fun _ h9 => h9) rfl dX5_rate_1 ?_
  refine lv_dup hx hb dX5_rate_4 rfl ?_
  refine va_getN (D := (g.1, g.2.1)) (ci := 0) (v := .long S.2.2.2.1) (C := RX0) (T := TX0) (N := 20) hx hb hts in_X0 hown hK hP 0 rfl rfl 18 (by decide) (va_Nw.use rfl (hN _ q294 rfl)) (fun _ h9 => h9) rfl dX5_rate_5 ?_
  refine lv_ldc2 (v := 100) hx hb hown (hts _ q821) dX5_rate_8 ?_
  refine lv_ladd hx hb dX5_rate_11 ?_
  refine va_putN (D := (g.1, g.2.1)) (ci := 0) (v := .long (S.2.2.2.1 + 100)) (ty := .long) (C := RX0) (T := TX0) (N := 20) hx hb hts in_X0 tyX0 tyX0_ok nmX0 hown hK hP hD hS 0 rfl rfl 18 (by decide) (va_Nw.use rfl (hN _ q294 rfl)) (fun _ h9 => h9) rfl (by decide +kernel) rfl rfl (Nat.le_of_ble_eq_true rfl) dX5_rate_12 (fun H locs hP hD hS => ?_)
  obtain ⟨S_1, eS_1, hf⟩ := sm_lt_e hf
  have hP : PP g (WX g ad S_1) H := by rw [eS_1]; exact pxf18 hP
  have hD : va_D (AX ad) (WX g ad S_1) := by rw [eS_1]; exact dxf18 hD
  refine lv_aload_n hx hb dX5_rate_15 rfl (lv_at hl 0 rfl) ?_
  refine lv_iload_n hx hb dX5_rate_16 rfl (lv_at hl 1 rfl) ?_
  obtain ⟨S_2, r_4, h_3, hf⟩ := sm_b2_e hf
  refine va_calli (va_runSU (C := RX7) (sm_cat hK (ci := 7) rfl) (As := [.int a1]) (rest := []) ⟨hx, hb, hml, hown, hts⟩ (wX3_rate_27 l g ad S_1 a1 S_2 r_4 h_3) (va_cwSU 1 hts (lw_SU q822 q804 q230 q802 q64 q831) rfl rfl rfl (by decide +kernel) ⟨Nat.le_of_ble_eq_true rfl, Nat.le_of_ble_eq_true rfl⟩) (sm_pe hE hP hD (va_recv hK hP (ci := 7) (q0 := 27) rfl rfl)) rfl rfl hl.1 rfl (lv_room (Nat.le_of_ble_eq_true rfl)) dX5_rate_17 ⟨Nat.le_of_ble_eq_true rfl, Nat.le_of_ble_eq_true rfl⟩) hS (fun _ _ h => h) (fun _ h => h) (fun r_6 u t H locs ht hvm er_5 hB hz hk hS => ?_)
  have er_5 := er_5.symm
  subst er_5
  obtain ⟨hP, hD⟩ := hB
  rw [ht] at hP
  refine lv_aload_n hx hb dX5_rate_20 rfl (lv_at hl 0 rfl) ?_
  refine va_get (D := (g.1, g.2.1)) (ci := 7) (v := .ref (ad 0)) (C := RX7) (T := TX7) (N := 3) hx hb hts in_X7 hown hK hP 27 rfl rfl 1 (by decide) (hts _ q226) (fun _ h9 => h9) rfl dX5_rate_21 ?_
  refine va_getN (D := (g.1, g.2.1)) (ci := 0) (v := .ref (ad 1)) (C := RX0) (T := TX0) (N := 20) hx hb hts in_X0 hown hK hP 0 rfl rfl 0 (by decide) (va_Nw.use rfl (hN _ q268 rfl)) (fun _ h9 => h9) rfl dX5_rate_24 ?_
  refine va_getN (D := (g.1, g.2.1)) (ci := 1) (v := .ref (ad 7)) (C := RX1) (T := TX1) (N := 9) hx hb hts in_X1 hown hK hP 1 rfl rfl 5 (by decide) (va_Nw.use rfl (hN _ q117 rfl)) (fun _ h9 => h9) rfl dX5_rate_27 ?_
  refine lv_iload_n hx hb dX5_rate_30 rfl (lv_at hl 1 rfl) ?_
  obtain ⟨hg, hf⟩ := sm_gd_e hf
  refine va_iald hx hb hK hP 7 0 rfl rfl (sm_in hg) dX5_rate_31 ?_
  refine lv_isub hx hb dX5_rate_32 ?_
  have hf := Option.some.inj hf
  rw [← hQ]
  have hf := Prod.mk.inj hf
  exact W.iret (v := r_4 - (S_2.2.2.2.2.1.2 5 a1.toNatClampNeg)) hx hb hr (fun t ht hW => ⟨⟨_, (), rfl, hf.2, by rw [ht, ← hf.1]; exact hP, by rw [← hf.1]; exact hD⟩, hS.F ht⟩) hS.2.2 dX5_rate_33
abbrev rX6_rate_26 : Room := { frames := 3, cells := 0, slots := 0, locals := 62 }
set_option maxHeartbeats 4000000 in
theorem wX6_rate_26 (l : Launch) (g : GG) (ad : Nat → Nat) (S : XS) (a1 : Int32) (Sf : XS) (rf : Int32) (hf : fX6_rate_26 S a1 = some (Sf, rf)) : Met l yX6_rate (ws_ yX6_rate cX6_rate 2 (some .int)) rX6_rate_26 (va_Pc [.ref (ad 26), .int a1] (fun Ux => PP g (WX g ad S) Ux.heap ∧ EV g Ux ∧ va_D (AX ad) (WX g ad S))) (va_Qi (fun y (_ : Unit) => y = rf) (fun _ t => PP g (WX g ad Sf) t.heap ∧ va_D (AX ad) (WX g ad Sf)) (AX ad)) 0 0 (AX ad) := by
  refine sm_st (by decide) ?_
  intro p e s m args below meth c hx hb hr hlocks hml hown hnm hts hv
  obtain ⟨hargs, hP, hE, hD⟩ := hv
  obtain ⟨hK, hN⟩ := id hE
  have hS : va_S (AX ad) s.heap s.heap [] := va_S.rf
  have hown : s.vm.findClass RX6 = some m.cls := hown
  refine sm_en _ (Nat.le_of_ble_eq_true rfl) hargs (fun ls hl => ?_)
  have hl : lv_has ls 2 [(0, .ref (ad 26)), (1, .int a1)] := hl
  generalize hQ : MQ below _ args s _ _ _ = Q
  unfold fX6_rate_26 at hf
  refine lv_aload_n hx hb dX6_rate_0 rfl (lv_at hl 0 rfl) ?_
  refine va_get (D := (g.1, g.2.1)) (ci := 6) (v := .ref (ad 0)) (C := RX6) (T := TX6) (N := 3) hx hb hts in_X6 hown hK hP 26 rfl rfl 2 (by decide) (hts _ q237) (fun _ h9 => h9) rfl dX6_rate_1 ?_
  refine lv_dup hx hb dX6_rate_4 rfl ?_
  refine va_getN (D := (g.1, g.2.1)) (ci := 0) (v := .long S.2.2.2.1) (C := RX0) (T := TX0) (N := 20) hx hb hts in_X0 hown hK hP 0 rfl rfl 18 (by decide) (va_Nw.use rfl (hN _ q291 rfl)) (fun _ h9 => h9) rfl dX6_rate_5 ?_
  refine lv_ldc2 (v := 1000) hx hb hown (hts _ q808) dX6_rate_8 ?_
  refine lv_ladd hx hb dX6_rate_11 ?_
  refine va_putN (D := (g.1, g.2.1)) (ci := 0) (v := .long (S.2.2.2.1 + 1000)) (ty := .long) (C := RX0) (T := TX0) (N := 20) hx hb hts in_X0 tyX0 tyX0_ok nmX0 hown hK hP hD hS 0 rfl rfl 18 (by decide) (va_Nw.use rfl (hN _ q291 rfl)) (fun _ h9 => h9) rfl (by decide +kernel) rfl rfl (Nat.le_of_ble_eq_true rfl) dX6_rate_12 (fun H locs hP hD hS => ?_)
  obtain ⟨S_1, eS_1, hf⟩ := sm_lt_e hf
  have hP : PP g (WX g ad S_1) H := by rw [eS_1]; exact pxf18 hP
  have hD : va_D (AX ad) (WX g ad S_1) := by rw [eS_1]; exact dxf18 hD
  refine lv_iconst (v := 2) hx hb dX6_rate_15 (by decide) ?_
  refine lv_aload_n hx hb dX6_rate_16 rfl (lv_at hl 0 rfl) ?_
  refine lv_iload_n hx hb dX6_rate_17 rfl (lv_at hl 1 rfl) ?_
  obtain ⟨S_2, r_4, h_3, hf⟩ := sm_b2_e hf
  refine va_calli (va_runSU (C := RX6) (sm_cat hK (ci := 6) rfl) (As := [.int a1]) (rest := [.int 2]) ⟨hx, hb, hml, hown, hts⟩ (wX4_rate_26 l g ad S_1 a1 S_2 r_4 h_3) (va_cwSU 1 hts (lw_SU q809 q1274 q242 q810 q65 q811) rfl rfl rfl (by decide +kernel) ⟨Nat.le_of_ble_eq_true rfl, Nat.le_of_ble_eq_true rfl⟩) (sm_pe hE hP hD (va_recv hK hP (ci := 6) (q0 := 26) rfl rfl)) rfl rfl hl.1 rfl (lv_room (Nat.le_of_ble_eq_true rfl)) dX6_rate_18 ⟨Nat.le_of_ble_eq_true rfl, Nat.le_of_ble_eq_true rfl⟩) hS (fun _ _ h => h) (fun _ h => h) (fun r_6 u t H locs ht hvm er_5 hB hz hk hS => ?_)
  have er_5 := er_5.symm
  subst er_5
  obtain ⟨hP, hD⟩ := hB
  rw [ht] at hP
  refine lv_imul hx hb dX6_rate_21 ?_
  have hf := Option.some.inj hf
  rw [← hQ]
  have hf := Prod.mk.inj hf
  exact W.iret (v := 2 * r_4) hx hb hr (fun t ht hW => ⟨⟨_, (), rfl, hf.2, by rw [ht, ← hf.1]; exact hP, by rw [← hf.1]; exact hD⟩, hS.F ht⟩) hS.2.2 dX6_rate_22
abbrev rX7_rate_27 : Room := { frames := 3, cells := 0, slots := 0, locals := 62 }
set_option maxHeartbeats 4000000 in
theorem wX7_rate_27 (l : Launch) (g : GG) (ad : Nat → Nat) (S : XS) (a1 : Int32) (Sf : XS) (rf : Int32) (hf : fX7_rate_27 S a1 = some (Sf, rf)) : Met l yX7_rate (ws_ yX7_rate cX7_rate 2 (some .int)) rX7_rate_27 (va_Pc [.ref (ad 27), .int a1] (fun Ux => PP g (WX g ad S) Ux.heap ∧ EV g Ux ∧ va_D (AX ad) (WX g ad S))) (va_Qi (fun y (_ : Unit) => y = rf) (fun _ t => PP g (WX g ad Sf) t.heap ∧ va_D (AX ad) (WX g ad Sf)) (AX ad)) 0 0 (AX ad) := by
  refine sm_st (by decide) ?_
  intro p e s m args below meth c hx hb hr hlocks hml hown hnm hts hv
  obtain ⟨hargs, hP, hE, hD⟩ := hv
  obtain ⟨hK, hN⟩ := id hE
  have hS : va_S (AX ad) s.heap s.heap [] := va_S.rf
  have hown : s.vm.findClass RX7 = some m.cls := hown
  refine sm_en _ (Nat.le_of_ble_eq_true rfl) hargs (fun ls hl => ?_)
  have hl : lv_has ls 2 [(0, .ref (ad 27)), (1, .int a1)] := hl
  generalize hQ : MQ below _ args s _ _ _ = Q
  unfold fX7_rate_27 at hf
  refine lv_aload_n hx hb dX7_rate_0 rfl (lv_at hl 0 rfl) ?_
  refine va_get (D := (g.1, g.2.1)) (ci := 7) (v := .ref (ad 0)) (C := RX7) (T := TX7) (N := 3) hx hb hts in_X7 hown hK hP 27 rfl rfl 2 (by decide) (hts _ q249) (fun _ h9 => h9) rfl dX7_rate_1 ?_
  refine lv_dup hx hb dX7_rate_4 rfl ?_
  refine va_getN (D := (g.1, g.2.1)) (ci := 0) (v := .long S.2.2.2.1) (C := RX0) (T := TX0) (N := 20) hx hb hts in_X0 hown hK hP 0 rfl rfl 18 (by decide) (va_Nw.use rfl (hN _ q293 rfl)) (fun _ h9 => h9) rfl dX7_rate_5 ?_
  refine lv_ldc2 (v := 10000) hx hb hown (hts _ q817) dX7_rate_8 ?_
  refine lv_ladd hx hb dX7_rate_11 ?_
  refine va_putN (D := (g.1, g.2.1)) (ci := 0) (v := .long (S.2.2.2.1 + 10000)) (ty := .long) (C := RX0) (T := TX0) (N := 20) hx hb hts in_X0 tyX0 tyX0_ok nmX0 hown hK hP hD hS 0 rfl rfl 18 (by decide) (va_Nw.use rfl (hN _ q293 rfl)) (fun _ h9 => h9) rfl (by decide +kernel) rfl rfl (Nat.le_of_ble_eq_true rfl) dX7_rate_12 (fun H locs hP hD hS => ?_)
  obtain ⟨S_1, eS_1, hf⟩ := sm_lt_e hf
  have hP : PP g (WX g ad S_1) H := by rw [eS_1]; exact pxf18 hP
  have hD : va_D (AX ad) (WX g ad S_1) := by rw [eS_1]; exact dxf18 hD
  refine lv_aload_n hx hb dX7_rate_15 rfl (lv_at hl 0 rfl) ?_
  refine lv_iload_n hx hb dX7_rate_16 rfl (lv_at hl 1 rfl) ?_
  obtain ⟨S_2, r_4, h_3, hf⟩ := sm_b2_e hf
  refine va_calli (va_runSU (C := RX7) (sm_cat hK (ci := 7) rfl) (As := [.int a1]) (rest := []) ⟨hx, hb, hml, hown, hts⟩ (wX5_rate_27 l g ad S_1 a1 S_2 r_4 h_3) (va_cwSU 1 hts (lw_SU q818 q1275 q254 q819 q66 q820) rfl rfl rfl (by decide +kernel) ⟨Nat.le_of_ble_eq_true rfl, Nat.le_of_ble_eq_true rfl⟩) (sm_pe hE hP hD (va_recv hK hP (ci := 7) (q0 := 27) rfl rfl)) rfl rfl hl.1 rfl (lv_room (Nat.le_of_ble_eq_true rfl)) dX7_rate_17 ⟨Nat.le_of_ble_eq_true rfl, Nat.le_of_ble_eq_true rfl⟩) hS (fun _ _ h => h) (fun _ h => h) (fun r_6 u t H locs ht hvm er_5 hB hz hk hS => ?_)
  have er_5 := er_5.symm
  subst er_5
  obtain ⟨hP, hD⟩ := hB
  rw [ht] at hP
  refine lv_iload_n hx hb dX7_rate_20 rfl (lv_at hl 1 rfl) ?_
  refine lv_iadd hx hb dX7_rate_21 ?_
  have hf := Option.some.inj hf
  rw [← hQ]
  have hf := Prod.mk.inj hf
  exact W.iret (v := r_4 + a1) hx hb hr (fun t ht hW => ⟨⟨_, (), rfl, hf.2, by rw [ht, ← hf.1]; exact hP, by rw [← hf.1]; exact hD⟩, hS.F ht⟩) hS.2.2 dX7_rate_22
abbrev rX8_rate_28 : Room := { frames := 2, cells := 0, slots := 0, locals := 41 }
set_option maxHeartbeats 4000000 in
theorem wX8_rate_28 (l : Launch) (g : GG) (ad : Nat → Nat) (S : XS) (a1 : Int32) (Sf : XS) (rf : Int32) (hf : fX8_rate_28 S a1 = some (Sf, rf)) : Met l yX8_rate (ws_ yX8_rate cX8_rate 2 (some .int)) rX8_rate_28 (va_Pc [.ref (ad 28), .int a1] (fun Ux => PP g (WX g ad S) Ux.heap ∧ EV g Ux ∧ va_D (AX ad) (WX g ad S))) (va_Qi (fun y (_ : Unit) => y = rf) (fun _ t => PP g (WX g ad Sf) t.heap ∧ va_D (AX ad) (WX g ad Sf)) (AX ad)) 0 0 (AX ad) := by
  refine sm_st (by decide) ?_
  intro p e s m args below meth c hx hb hr hlocks hml hown hnm hts hv
  obtain ⟨hargs, hP, hE, hD⟩ := hv
  obtain ⟨hK, hN⟩ := id hE
  have hS : va_S (AX ad) s.heap s.heap [] := va_S.rf
  have hown : s.vm.findClass RX8 = some m.cls := hown
  refine sm_en _ (Nat.le_of_ble_eq_true rfl) hargs (fun ls hl => ?_)
  have hl : lv_has ls 2 [(0, .ref (ad 28)), (1, .int a1)] := hl
  generalize hQ : MQ below _ args s _ _ _ = Q
  unfold fX8_rate_28 at hf
  refine lv_aload_n hx hb dX8_rate_0 rfl (lv_at hl 0 rfl) ?_
  refine va_get (D := (g.1, g.2.1)) (ci := 8) (v := .ref (ad 0)) (C := RX8) (T := TX8) (N := 2) hx hb hts in_X8 hown hK hP 28 rfl rfl 1 (by decide) (hts _ q261) (fun _ h9 => h9) rfl dX8_rate_1 ?_
  refine lv_dup hx hb dX8_rate_4 rfl ?_
  refine va_getN (D := (g.1, g.2.1)) (ci := 0) (v := .long S.2.2.2.1) (C := RX0) (T := TX0) (N := 20) hx hb hts in_X0 hown hK hP 0 rfl rfl 18 (by decide) (va_Nw.use rfl (hN _ q295 rfl)) (fun _ h9 => h9) rfl dX8_rate_5 ?_
  refine lv_ldc2 (v := 100000) hx hb hown (hts _ q826) dX8_rate_8 ?_
  refine lv_ladd hx hb dX8_rate_11 ?_
  refine va_putN (D := (g.1, g.2.1)) (ci := 0) (v := .long (S.2.2.2.1 + 100000)) (ty := .long) (C := RX0) (T := TX0) (N := 20) hx hb hts in_X0 tyX0 tyX0_ok nmX0 hown hK hP hD hS 0 rfl rfl 18 (by decide) (va_Nw.use rfl (hN _ q295 rfl)) (fun _ h9 => h9) rfl (by decide +kernel) rfl rfl (Nat.le_of_ble_eq_true rfl) dX8_rate_12 (fun H locs hP hD hS => ?_)
  obtain ⟨S_1, eS_1, hf⟩ := sm_lt_e hf
  have hP : PP g (WX g ad S_1) H := by rw [eS_1]; exact pxf18 hP
  have hD : va_D (AX ad) (WX g ad S_1) := by rw [eS_1]; exact dxf18 hD
  refine lv_aload_n hx hb dX8_rate_15 rfl (lv_at hl 0 rfl) ?_
  refine lv_iload_n hx hb dX8_rate_16 rfl (lv_at hl 1 rfl) ?_
  obtain ⟨S_2, r_4, h_3, hf⟩ := sm_b2_e hf
  refine va_calli (va_runSU (C := RX8) (sm_cat hK (ci := 8) rfl) (As := [.int a1]) (rest := []) ⟨hx, hb, hml, hown, hts⟩ (wX3_rate_28 l g ad S_1 a1 S_2 r_4 h_3) (va_cwSU 1 hts (lw_SU q827 q804 q265 q802 q64 q831) rfl rfl rfl (by decide +kernel) ⟨Nat.le_of_ble_eq_true rfl, Nat.le_of_ble_eq_true rfl⟩) (sm_pe hE hP hD (va_recv hK hP (ci := 8) (q0 := 28) rfl rfl)) rfl rfl hl.1 rfl (lv_room (Nat.le_of_ble_eq_true rfl)) dX8_rate_17 ⟨Nat.le_of_ble_eq_true rfl, Nat.le_of_ble_eq_true rfl⟩) hS (fun _ _ h => h) (fun _ h => h) (fun r_6 u t H locs ht hvm er_5 hB hz hk hS => ?_)
  have er_5 := er_5.symm
  subst er_5
  obtain ⟨hP, hD⟩ := hB
  rw [ht] at hP
  refine lv_aload_n hx hb dX8_rate_20 rfl (lv_at hl 0 rfl) ?_
  refine va_get (D := (g.1, g.2.1)) (ci := 8) (v := .ref (ad 0)) (C := RX8) (T := TX8) (N := 2) hx hb hts in_X8 hown hK hP 28 rfl rfl 1 (by decide) (hts _ q261) (fun _ h9 => h9) rfl dX8_rate_21 ?_
  refine va_getN (D := (g.1, g.2.1)) (ci := 0) (v := .ref (ad 29)) (C := RX0) (T := TX0) (N := 20) hx hb hts in_X0 hown hK hP 0 rfl rfl 1 (by decide) (va_Nw.use rfl (hN _ q270 rfl)) (fun _ h9 => h9) rfl dX8_rate_24 ?_
  refine va_getN (D := (g.1, g.2.1)) (ci := 2) (v := .int ((S_2.2.2.1 0).1 2)) (C := RX2) (T := TX2) (N := 7) hx hb hts in_X2 hown hK hP 29 rfl rfl 2 (by decide) (va_Nw.use rfl (hN _ q165 rfl)) (fun _ h9 => h9) rfl dX8_rate_27 ?_
  refine vp_callSi (W.runS (As := [.int ((S_2.2.2.1 0).1 2)]) (rest := [.int r_4]) ⟨hx, hb, hml, hown, hts⟩ (wJ10_bitCount l ((S_2.2.2.1 0).1 2) (fJ10_bitCount ((S_2.2.2.1 0).1 2)) rfl) (va_cwS 1 hts (lw_S q828 q654 q83 q655) rfl rfl rfl (by decide +kernel) ⟨Nat.le_of_ble_eq_true rfl, Nat.le_of_ble_eq_true rfl⟩) (sm_ps) rfl rfl hl.1 rfl (lv_room (Nat.le_of_ble_eq_true rfl)) dX8_rate_30 ⟨Nat.le_of_ble_eq_true rfl, Nat.le_of_ble_eq_true rfl⟩) (fun r_8 er_7 => ?_)
  have er_7 := er_7.symm
  subst er_7
  refine lv_iadd hx hb dX8_rate_33 ?_
  have hf := Option.some.inj hf
  rw [← hQ]
  have hf := Prod.mk.inj hf
  exact W.iret (v := r_4 + (fJ10_bitCount ((S_2.2.2.1 0).1 2))) hx hb hr (fun t ht hW => ⟨⟨_, (), rfl, hf.2, by rw [ht, ← hf.1]; exact hP, by rw [← hf.1]; exact hD⟩, hS.F ht⟩) hS.2.2 dX8_rate_34
abbrev rX0_rate : Room := { frames := 4, cells := 0, slots := 0, locals := 83 }
set_option maxHeartbeats 4000000 in
theorem wX0_rate (l : Launch) (g : GG) (ad : Nat → Nat) (S : XS) (a1 : Int32) (a2 : Int32) (Sf : XS) (rf : Int32) (hf : fX0_rate S a1 a2 = some (Sf, rf)) : Met l yX0_rate (ws_ yX0_rate cX0_rate 3 (some .int)) rX0_rate (va_Pc [.ref (ad 0), .int a1, .int a2] (fun Ux => PP g (WX g ad S) Ux.heap ∧ EV g Ux ∧ va_D (AX ad) (WX g ad S))) (va_Qi (fun y (_ : Unit) => y = rf) (fun _ t => PP g (WX g ad Sf) t.heap ∧ va_D (AX ad) (WX g ad Sf)) (AX ad)) 0 0 (AX ad) := by
  refine sm_st (by decide) ?_
  intro p e s m args below meth c hx hb hr hlocks hml hown hnm hts hv
  obtain ⟨hargs, hP, hE, hD⟩ := hv
  obtain ⟨hK, hN⟩ := id hE
  have hS : va_S (AX ad) s.heap s.heap [] := va_S.rf
  have hown : s.vm.findClass RX0 = some m.cls := hown
  refine sm_en _ (Nat.le_of_ble_eq_true rfl) hargs (fun ls hl => ?_)
  have hl : lv_has ls 3 [(0, .ref (ad 0)), (1, .int a1), (2, .int a2)] := hl
  generalize hQ : MQ below _ args s _ _ _ = Q
  unfold fX0_rate at hf
  refine lv_iload_n hx hb dX0_rate_0 rfl (lv_at hl 1 rfl) ?_
  refine lv_iconst (v := 0) hx hb dX0_rate_1 (by decide) ?_
  refine lv_iconst (v := 5) hx hb dX0_rate_2 (by decide) ?_
  refine vp_callSi (W.runS (As := [.int a1, .int 0, .int 5]) (rest := []) ⟨hx, hb, hml, hown, hts⟩ (wX0_in l a1 0 5 (fX0_in a1 0 5) rfl) (va_cwS 3 hts (lw_S q343 q344 q60 q345) rfl rfl rfl (by decide +kernel) ⟨Nat.le_of_ble_eq_true rfl, Nat.le_of_ble_eq_true rfl⟩) (sm_ps) rfl rfl hl.1 rfl (lv_room (Nat.le_of_ble_eq_true rfl)) dX0_rate_3 ⟨Nat.le_of_ble_eq_true rfl, Nat.le_of_ble_eq_true rfl⟩) (fun r_2 er_1 => ?_)
  have er_1 := er_1.symm
  subst er_1
  refine lv_if_eq (tgt := 30) hx hb dX0_rate_6 (by decide) (fun c_3 => ?_) (fun c_3 => ?_)
  · have hf := (if_pos c_3).symm.trans hf
    refine lv_ldcw (v := (-1000000)) hx hb hown (hts _ q833) dX0_rate_30 ?_
    have hf := Option.some.inj hf
    rw [← hQ]
    have hf := Prod.mk.inj hf
    exact W.iret (v := (-1000000)) hx hb hr (fun t ht hW => ⟨⟨_, (), rfl, hf.2, by rw [ht, ← hf.1]; exact hP, by rw [← hf.1]; exact hD⟩, hS.F ht⟩) hS.2.2 dX0_rate_33
  · have hf := (if_neg c_3).symm.trans hf
    refine lv_aload_n hx hb dX0_rate_9 rfl (lv_at hl 0 rfl) ?_
    refine lv_iload_n hx hb dX0_rate_10 rfl (lv_at hl 2 rfl) ?_
    refine vp_callSi (W.runV (As := [.int a2]) (rest := []) ⟨hx, hb, hml, hown, hts⟩ (wX0_isClerk l g ad S a2 (fX0_isClerk S a2) rfl) (cwV 1 hts (lw_V q588 q590 qs8 q60 q591) rfl rfl rfl (by decide +kernel) ⟨Nat.le_of_ble_eq_true rfl, Nat.le_of_ble_eq_true rfl⟩) (sm_pv hE hP (va_recv hK hP (ci := 0) (q0 := 0) rfl rfl)) rfl rfl hl.1 rfl (lv_room (Nat.le_of_ble_eq_true rfl)) dX0_rate_11 ⟨Nat.le_of_ble_eq_true rfl, Nat.le_of_ble_eq_true rfl⟩) (fun r_5 er_4 => ?_)
    have er_4 := er_4.symm
    subst er_4
    refine lv_if_eq (tgt := 30) hx hb dX0_rate_14 (by decide) (fun c_6 => ?_) (fun c_6 => ?_)
    · have hf := (if_pos c_6).symm.trans hf
      refine lv_ldcw (v := (-1000000)) hx hb hown (hts _ q833) dX0_rate_30 ?_
      have hf := Option.some.inj hf
      rw [← hQ]
      have hf := Prod.mk.inj hf
      exact W.iret (v := (-1000000)) hx hb hr (fun t ht hW => ⟨⟨_, (), rfl, hf.2, by rw [ht, ← hf.1]; exact hP, by rw [← hf.1]; exact hD⟩, hS.F ht⟩) hS.2.2 dX0_rate_33
    · have hf := (if_neg c_6).symm.trans hf
      refine lv_aload_n hx hb dX0_rate_17 rfl (lv_at hl 0 rfl) ?_
      refine va_get (D := (g.1, g.2.1)) (ci := 0) (v := .ref (ad 22)) (C := RX0) (T := TX0) (N := 20) hx hb hts in_X0 hown hK hP 0 rfl rfl 19 (by decide) (hts _ q297) (fun _ h9 => h9) rfl dX0_rate_18 ?_
      refine lv_iload_n hx hb dX0_rate_21 rfl (lv_at hl 1 rfl) ?_
      by_cases c_12 : a1 = 0
      · have hf := (if_pos c_12).symm.trans hf
        refine va_aldq hx hb hK hP 22 5 rfl rfl (sm_in (by rw [c_12]; rfl)) dX0_rate_22 ?_
        refine W.eq (g2 := F0 m 23 ls [.ref (ad 23)]) (by rw [c_12]; rfl) ?_
        refine lv_iload_n hx hb dX0_rate_23 rfl (lv_at hl 2 rfl) ?_
        obtain ⟨S_7, r_9, h_8, hf⟩ := sm_b2_e hf
        refine va_calli (va_runV (As := [.int a2]) (rest := []) ⟨hx, hb, hml, hown, hts⟩ (wX3_rate_23 l g ad S a2 S_7 r_9 h_8) (cwV 1 hts (lw_V q801 q802 q803 q64 q831) rfl rfl rfl (by decide +kernel) ⟨Nat.le_of_ble_eq_true rfl, Nat.le_of_ble_eq_true rfl⟩) (sm_pe hE hP hD (va_recv hK hP (ci := 3) (q0 := 23) rfl rfl)) rfl rfl hl.1 rfl (lv_room (Nat.le_of_ble_eq_true rfl)) dX0_rate_24 ⟨Nat.le_of_ble_eq_true rfl, Nat.le_of_ble_eq_true rfl⟩) hS (fun _ _ h => h) (fun _ h => h) (fun r_11 u t H locs ht hvm er_10 hB hz hk hS => ?_)
        have er_10 := er_10.symm
        subst er_10
        obtain ⟨hP, hD⟩ := hB
        rw [ht] at hP
        refine lv_goto (tgt := 33) hx hb dX0_rate_27 (by decide) ?_
        have hf := Option.some.inj hf
        rw [← hQ]
        have hf := Prod.mk.inj hf
        exact W.iret (v := r_9) hx hb hr (fun t ht hW => ⟨⟨_, (), rfl, hf.2, by rw [ht, ← hf.1]; exact hP, by rw [← hf.1]; exact hD⟩, hS.F ht⟩) hS.2.2 dX0_rate_33
      have hf := (if_neg c_12).symm.trans hf
      by_cases c_18 : a1 = 1
      · have hf := (if_pos c_18).symm.trans hf
        refine va_aldq hx hb hK hP 22 5 rfl rfl (sm_in (by rw [c_18]; rfl)) dX0_rate_22 ?_
        refine W.eq (g2 := F0 m 23 ls [.ref (ad 24)]) (by rw [c_18]; rfl) ?_
        refine lv_iload_n hx hb dX0_rate_23 rfl (lv_at hl 2 rfl) ?_
        obtain ⟨S_13, r_15, h_14, hf⟩ := sm_b2_e hf
        refine va_calli (va_runU (As := [.int a2]) (rest := []) ⟨hx, hb, hml, hown, hts⟩ (wX4_rate_24 l g ad S a2 S_13 r_15 h_14) (va_cwO 1 hts (lw_O q801 q804 q802 q830 q810 q65 q811) rfl rfl rfl q831 (by decide +kernel) ⟨Nat.le_of_ble_eq_true rfl, Nat.le_of_ble_eq_true rfl⟩) (sm_pe hE hP hD (va_recv hK hP (ci := 4) (q0 := 24) rfl rfl)) rfl rfl hl.1 rfl (lv_room (Nat.le_of_ble_eq_true rfl)) dX0_rate_24 ⟨Nat.le_of_ble_eq_true rfl, Nat.le_of_ble_eq_true rfl⟩) hS (fun _ _ h => h) (fun _ h => h) (fun r_17 u t H locs ht hvm er_16 hB hz hk hS => ?_)
        have er_16 := er_16.symm
        subst er_16
        obtain ⟨hP, hD⟩ := hB
        rw [ht] at hP
        refine lv_goto (tgt := 33) hx hb dX0_rate_27 (by decide) ?_
        have hf := Option.some.inj hf
        rw [← hQ]
        have hf := Prod.mk.inj hf
        exact W.iret (v := r_15) hx hb hr (fun t ht hW => ⟨⟨_, (), rfl, hf.2, by rw [ht, ← hf.1]; exact hP, by rw [← hf.1]; exact hD⟩, hS.F ht⟩) hS.2.2 dX0_rate_33
      have hf := (if_neg c_18).symm.trans hf
      by_cases c_24 : a1 = 2
      · have hf := (if_pos c_24).symm.trans hf
        refine va_aldq hx hb hK hP 22 5 rfl rfl (sm_in (by rw [c_24]; rfl)) dX0_rate_22 ?_
        refine W.eq (g2 := F0 m 23 ls [.ref (ad 25)]) (by rw [c_24]; rfl) ?_
        refine lv_iload_n hx hb dX0_rate_23 rfl (lv_at hl 2 rfl) ?_
        obtain ⟨S_19, r_21, h_20, hf⟩ := sm_b2_e hf
        refine va_calli (va_runU (As := [.int a2]) (rest := []) ⟨hx, hb, hml, hown, hts⟩ (wX5_rate_25 l g ad S a2 S_19 r_21 h_20) (va_cwO 1 hts (lw_O q801 q804 q802 q829 q819 q66 q820) rfl rfl rfl q831 (by decide +kernel) ⟨Nat.le_of_ble_eq_true rfl, Nat.le_of_ble_eq_true rfl⟩) (sm_pe hE hP hD (va_recv hK hP (ci := 5) (q0 := 25) rfl rfl)) rfl rfl hl.1 rfl (lv_room (Nat.le_of_ble_eq_true rfl)) dX0_rate_24 ⟨Nat.le_of_ble_eq_true rfl, Nat.le_of_ble_eq_true rfl⟩) hS (fun _ _ h => h) (fun _ h => h) (fun r_23 u t H locs ht hvm er_22 hB hz hk hS => ?_)
        have er_22 := er_22.symm
        subst er_22
        obtain ⟨hP, hD⟩ := hB
        rw [ht] at hP
        refine lv_goto (tgt := 33) hx hb dX0_rate_27 (by decide) ?_
        have hf := Option.some.inj hf
        rw [← hQ]
        have hf := Prod.mk.inj hf
        exact W.iret (v := r_21) hx hb hr (fun t ht hW => ⟨⟨_, (), rfl, hf.2, by rw [ht, ← hf.1]; exact hP, by rw [← hf.1]; exact hD⟩, hS.F ht⟩) hS.2.2 dX0_rate_33
      have hf := (if_neg c_24).symm.trans hf
      by_cases c_30 : a1 = 3
      · have hf := (if_pos c_30).symm.trans hf
        refine va_aldq hx hb hK hP 22 5 rfl rfl (sm_in (by rw [c_30]; rfl)) dX0_rate_22 ?_
        refine W.eq (g2 := F0 m 23 ls [.ref (ad 26)]) (by rw [c_30]; rfl) ?_
        refine lv_iload_n hx hb dX0_rate_23 rfl (lv_at hl 2 rfl) ?_
        obtain ⟨S_25, r_27, h_26, hf⟩ := sm_b2_e hf
        refine va_calli (va_runU (As := [.int a2]) (rest := []) ⟨hx, hb, hml, hown, hts⟩ (wX6_rate_26 l g ad S a2 S_25 r_27 h_26) (va_cwO 1 hts (lw_O q801 q804 q802 q805 q806 q67 q807) rfl rfl rfl q831 (by decide +kernel) ⟨Nat.le_of_ble_eq_true rfl, Nat.le_of_ble_eq_true rfl⟩) (sm_pe hE hP hD (va_recv hK hP (ci := 6) (q0 := 26) rfl rfl)) rfl rfl hl.1 rfl (lv_room (Nat.le_of_ble_eq_true rfl)) dX0_rate_24 ⟨Nat.le_of_ble_eq_true rfl, Nat.le_of_ble_eq_true rfl⟩) hS (fun _ _ h => h) (fun _ h => h) (fun r_29 u t H locs ht hvm er_28 hB hz hk hS => ?_)
        have er_28 := er_28.symm
        subst er_28
        obtain ⟨hP, hD⟩ := hB
        rw [ht] at hP
        refine lv_goto (tgt := 33) hx hb dX0_rate_27 (by decide) ?_
        have hf := Option.some.inj hf
        rw [← hQ]
        have hf := Prod.mk.inj hf
        exact W.iret (v := r_27) hx hb hr (fun t ht hW => ⟨⟨_, (), rfl, hf.2, by rw [ht, ← hf.1]; exact hP, by rw [← hf.1]; exact hD⟩, hS.F ht⟩) hS.2.2 dX0_rate_33
      have hf := (if_neg c_30).symm.trans hf
      by_cases c_36 : a1 = 4
      · have hf := (if_pos c_36).symm.trans hf
        refine va_aldq hx hb hK hP 22 5 rfl rfl (sm_in (by rw [c_36]; rfl)) dX0_rate_22 ?_
        refine W.eq (g2 := F0 m 23 ls [.ref (ad 27)]) (by rw [c_36]; rfl) ?_
        refine lv_iload_n hx hb dX0_rate_23 rfl (lv_at hl 2 rfl) ?_
        obtain ⟨S_31, r_33, h_32, hf⟩ := sm_b2_e hf
        refine va_calli (va_runU (As := [.int a2]) (rest := []) ⟨hx, hb, hml, hown, hts⟩ (wX7_rate_27 l g ad S a2 S_31 r_33 h_32) (va_cwO 1 hts (lw_O q801 q804 q802 q814 q815 q68 q816) rfl rfl rfl q831 (by decide +kernel) ⟨Nat.le_of_ble_eq_true rfl, Nat.le_of_ble_eq_true rfl⟩) (sm_pe hE hP hD (va_recv hK hP (ci := 7) (q0 := 27) rfl rfl)) rfl rfl hl.1 rfl (lv_room (Nat.le_of_ble_eq_true rfl)) dX0_rate_24 ⟨Nat.le_of_ble_eq_true rfl, Nat.le_of_ble_eq_true rfl⟩) hS (fun _ _ h => h) (fun _ h => h) (fun r_35 u t H locs ht hvm er_34 hB hz hk hS => ?_)
        have er_34 := er_34.symm
        subst er_34
        obtain ⟨hP, hD⟩ := hB
        rw [ht] at hP
        refine lv_goto (tgt := 33) hx hb dX0_rate_27 (by decide) ?_
        have hf := Option.some.inj hf
        rw [← hQ]
        have hf := Prod.mk.inj hf
        exact W.iret (v := r_33) hx hb hr (fun t ht hW => ⟨⟨_, (), rfl, hf.2, by rw [ht, ← hf.1]; exact hP, by rw [← hf.1]; exact hD⟩, hS.F ht⟩) hS.2.2 dX0_rate_33
      have hf := (if_neg c_36).symm.trans hf
      by_cases c_42 : a1 = 5
      · have hf := (if_pos c_42).symm.trans hf
        refine va_aldq hx hb hK hP 22 5 rfl rfl (sm_in (by rw [c_42]; rfl)) dX0_rate_22 ?_
        refine W.eq (g2 := F0 m 23 ls [.ref (ad 28)]) (by rw [c_42]; rfl) ?_
        refine lv_iload_n hx hb dX0_rate_23 rfl (lv_at hl 2 rfl) ?_
        obtain ⟨S_37, r_39, h_38, hf⟩ := sm_b2_e hf
        refine va_calli (va_runU (As := [.int a2]) (rest := []) ⟨hx, hb, hml, hown, hts⟩ (wX8_rate_28 l g ad S a2 S_37 r_39 h_38) (va_cwO 1 hts (lw_O q801 q804 q802 q823 q824 q69 q825) rfl rfl rfl q831 (by decide +kernel) ⟨Nat.le_of_ble_eq_true rfl, Nat.le_of_ble_eq_true rfl⟩) (sm_pe hE hP hD (va_recv hK hP (ci := 8) (q0 := 28) rfl rfl)) rfl rfl hl.1 rfl (lv_room (Nat.le_of_ble_eq_true rfl)) dX0_rate_24 ⟨Nat.le_of_ble_eq_true rfl, Nat.le_of_ble_eq_true rfl⟩) hS (fun _ _ h => h) (fun _ h => h) (fun r_41 u t H locs ht hvm er_40 hB hz hk hS => ?_)
        have er_40 := er_40.symm
        subst er_40
        obtain ⟨hP, hD⟩ := hB
        rw [ht] at hP
        refine lv_goto (tgt := 33) hx hb dX0_rate_27 (by decide) ?_
        have hf := Option.some.inj hf
        rw [← hQ]
        have hf := Prod.mk.inj hf
        exact W.iret (v := r_39) hx hb hr (fun t ht hW => ⟨⟨_, (), rfl, hf.2, by rw [ht, ← hf.1]; exact hP, by rw [← hf.1]; exact hD⟩, hS.F ht⟩) hS.2.2 dX0_rate_33
      have hf := (if_neg c_42).symm.trans hf
      cases hf
