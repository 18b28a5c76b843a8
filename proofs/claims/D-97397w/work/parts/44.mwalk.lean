/-! SmokedLettersModel, walked: printed by gen/model.py -/
set_option maxRecDepth 100000
abbrev rX9_share : Room := { frames := 0, cells := 0, slots := 0, locals := 0 }
set_option maxHeartbeats 4000000 in
theorem wX9_share (l : Launch) (a1 : Int64) (a2 : Int64) (a3 : Int32) (rf : Int64) (hf : fX9_share a1 a2 a3 = some rf) : Met l yX9_share (ws_ yX9_share cX9_share 11 (some .long)) rX9_share (va_Pc [.long a1, .long a2, .int a3] (fun _ => True)) (vp_Sl (fun y => y = rf)) 0 0 (fun _ => False) := by
  refine sm_st (by decide) ?_
  intro p e s m args below meth c hx hb hr hlocks hml hown hnm hts hv
  obtain ⟨hargs, -⟩ := hv
  have hown : s.vm.findClass RX9 = some m.cls := hown
  refine sm_en _ (Nat.le_of_ble_eq_true rfl) hargs (fun ls hl => ?_)
  have hl : lv_has ls 11 [(0, .long a1), (2, .long a2), (4, .int a3)] := hl
  generalize hQ : MQ below _ args s _ _ _ = Q
  unfold fX9_share at hf
  refine lv_lload_n hx hb dX9_share_0 rfl (lv_at hl 0 rfl) ?_
  refine lv_lstore (lv' := [(5, .long a1), (0, .long a1), (2, .long a2), (4, .int a3)]) hx hb dX9_share_1 hl (by decide) rfl (fun ls hl => ?_)
  refine lv_lload_n hx hb dX9_share_3 rfl (lv_at hl 2 rfl) ?_
  refine lv_lstore (lv' := [(7, .long a2), (5, .long a1), (0, .long a1), (2, .long a2), (4, .int a3)]) hx hb dX9_share_4 hl (by decide) rfl (fun ls hl => ?_)
  have L_8 : ∀ (n : Nat) (x_1 : Int64) (x_2 : Int64) (o_9 : Int64) (o_10 : Int64) (ls : Array Slot), sm_lp (fun q => fX9_share_6 q.1 q.2) n (x_1, x_2) = some (o_9, o_10) → lv_has ls 11 [(0, .long a1), (2, .long a2), (4, .int a3), (7, .long x_1), (5, .long x_2)] → (∀ (ls : Array Slot), lv_has ls 11 [(0, .long a1), (2, .long a2), (4, .int a3), (7, .long o_9), (5, .long o_10)] → W p l e rX9_share s m args below meth c s.heap [] 0 0 Q (F0 m 31 ls [])) → W p l e rX9_share s m args below meth c s.heap [] 0 0 Q (F0 m 6 ls []) := by
    intro n
    induction n with
    | zero =>
      intro _ _ _ _ _ hf
      cases hf
    | succ n ih_3 =>
      intro x_1 x_2 o_9 o_10 ls hf hl kx_4
      obtain ⟨q, hf, hc_7⟩ := sm_bnd hf
      have hf : fX9_share_6 x_1 x_2 = some q := hf
      unfold fX9_share_6 at hf
      refine lv_lload hx hb dX9_share_6 (lv_at hl 3 rfl) ?_
      refine lv_lconst (v := 0) hx hb dX9_share_8 (by decide) ?_
      refine W.lcmp hx hb dX9_share_9 ?_
      refine lv_if_le (tgt := 31) hx hb dX9_share_10 (by decide) (fun c_11 => ?_) (fun c_11 => ?_)
      · have hf := (if_pos c_11).symm.trans hf
        cases hf
        have hc_7 : some (x_1, x_2) = some (o_9, o_10) := hc_7
        cases hc_7
        exact kx_4 _ (lv_sub hl [0, 1, 2, 3, 4] rfl)
      · have hf := (if_neg c_11).symm.trans hf
        refine lv_lload hx hb dX9_share_13 (lv_at hl 4 rfl) ?_
        refine lv_lload hx hb dX9_share_15 (lv_at hl 3 rfl) ?_
        obtain ⟨hg, hf⟩ := sm_gd_e hf
        refine lv_lrem hx hb dX9_share_17 (sm_nel hg) ?_
        refine lv_lstore (lv' := [(9, .long (x_2 - x_2 / x_1 * x_1)), (0, .long a1), (2, .long a2), (4, .int a3), (7, .long x_1), (5, .long x_2)]) hx hb dX9_share_18 hl (by decide) rfl (fun ls hl => ?_)
        refine lv_lload hx hb dX9_share_20 (lv_at hl 4 rfl) ?_
        refine lv_lstore (lv' := [(5, .long x_1), (9, .long (x_2 - x_2 / x_1 * x_1)), (0, .long a1), (2, .long a2), (4, .int a3), (7, .long x_1)]) hx hb dX9_share_22 hl (by decide) rfl (fun ls hl => ?_)
        refine lv_lload hx hb dX9_share_24 (lv_at hl 1 rfl) ?_
        refine lv_lstore (lv' := [(7, .long (x_2 - x_2 / x_1 * x_1)), (5, .long x_1), (9, .long (x_2 - x_2 / x_1 * x_1)), (0, .long a1), (2, .long a2), (4, .int a3)]) hx hb dX9_share_26 hl (by decide) rfl (fun ls hl => ?_)
        refine lv_goto (tgt := 6) hx hb dX9_share_28 (by decide) ?_
        cases hf
        exact ih_3 _ _ _ _ _ hc_7 (lv_sub hl [3, 4, 5, 0, 1] rfl) kx_4
  obtain ⟨x_13, x_14, ho, hf⟩ := sm_b2_e hf
  refine L_8 FU a2 a1 x_13 x_14 ls ho (lv_sub hl [2, 3, 4, 0, 1] rfl) ?_
  intro ls hl
  refine lv_iload hx hb dX9_share_31 (lv_at hl 2 rfl) ?_
  refine lv_if_ne (tgt := 40) hx hb dX9_share_33 (by decide) (fun c_15 => ?_) (fun c_15 => ?_)
  · have hf := (if_neg c_15).symm.trans hf
    refine lv_lload_n hx hb dX9_share_40 rfl (lv_at hl 1 rfl) ?_
    refine lv_lload hx hb dX9_share_41 (lv_at hl 4 rfl) ?_
    obtain ⟨hg, hf⟩ := sm_gd_e hf
    refine lv_ldiv hx hb dX9_share_43 (sm_nel hg) ?_
    have hf := Option.some.inj hf
    rw [← hQ]
    exact W.lret (v := a2 / x_14) hx hb hr (fun t ht hW => ⟨_, rfl, hf, ht⟩) (fun _ h => by cases h) dX9_share_44
  · have hf := (if_pos c_15).symm.trans hf
    refine lv_lload_n hx hb dX9_share_36 rfl (lv_at hl 0 rfl) ?_
    refine lv_goto (tgt := 41) hx hb dX9_share_37 (by decide) ?_
    refine lv_lload hx hb dX9_share_41 (lv_at hl 4 rfl) ?_
    obtain ⟨hg, hf⟩ := sm_gd_e hf
    refine lv_ldiv hx hb dX9_share_43 (sm_nel hg) ?_
    have hf := Option.some.inj hf
    rw [← hQ]
    exact W.lret (v := a1 / x_14) hx hb hr (fun t ht hW => ⟨_, rfl, hf, ht⟩) (fun _ h => by cases h) dX9_share_44
abbrev rX9_clean : Room := { frames := 2, cells := 0, slots := 0, locals := 43 }
set_option maxHeartbeats 4000000 in
theorem wX9_clean (l : Launch) (g : GG) (ad : Nat → Nat) (S : MS) (a1 : Int32) (a2 : Int32) (rf : Int64) (hf : fX9_clean S a1 a2 = some rf) : Met l yX9_clean (ws_ yX9_clean cX9_clean 8 (some .long)) rX9_clean (va_Pc [.ref (ad 0), .int a1, .int a2] (fun U => PP g (WM g ad S) U.heap ∧ EV g U)) (vp_Sl (fun y => y = rf)) 0 0 (fun _ => False) := by
  refine sm_st (by decide) ?_
  intro p e s m args below meth c hx hb hr hlocks hml hown hnm hts hv
  obtain ⟨hargs, hP, hE⟩ := hv
  obtain ⟨hK, hN⟩ := id hE
  have hown : s.vm.findClass RX9 = some m.cls := hown
  refine sm_en _ (Nat.le_of_ble_eq_true rfl) hargs (fun ls hl => ?_)
  have hl : lv_has ls 8 [(0, .ref (ad 0)), (1, .int a1), (2, .int a2)] := hl
  generalize hQ : MQ below _ args s _ _ _ = Q
  unfold fX9_clean at hf
  refine lv_aload_n hx hb dX9_clean_0 rfl (lv_at hl 0 rfl) ?_
  refine lv_iload_n hx hb dX9_clean_1 rfl (lv_at hl 1 rfl) ?_
  refine vp_callSi (W.runV (As := [.int a1]) (rest := []) ⟨hx, hb, hml, hown, hts⟩ (wX9_isRow l g ad S a1 (fX9_isRow S a1) rfl) (cwV 1 hts (lw_V q1065 q1067 qs36 q70 q1068) rfl rfl rfl (by decide +kernel) ⟨Nat.le_of_ble_eq_true rfl, Nat.le_of_ble_eq_true rfl⟩) (sm_pv hE hP (va_recv hK hP (ci := 9) (q0 := 0) rfl rfl)) rfl rfl hl.1 rfl (lv_room (Nat.le_of_ble_eq_true rfl)) dX9_clean_2 ⟨Nat.le_of_ble_eq_true rfl, Nat.le_of_ble_eq_true rfl⟩) (fun r_2 er_1 => ?_)
  have er_1 := er_1.symm
  subst er_1
  refine lv_if_eq (tgt := 17) hx hb dX9_clean_5 (by decide) (fun c_3 => ?_) (fun c_3 => ?_)
  · have hf := (if_pos c_3).symm.trans hf
    refine lv_ldc2 (v := (-1)) hx hb hown (hts _ q1141) dX9_clean_17 ?_
    have hf := Option.some.inj hf
    rw [← hQ]
    exact W.lret (v := (-1)) hx hb hr (fun t ht hW => ⟨_, rfl, hf, ht⟩) (fun _ h => by cases h) dX9_clean_20
  · have hf := (if_neg c_3).symm.trans hf
    refine lv_iload_n hx hb dX9_clean_8 rfl (lv_at hl 2 rfl) ?_
    refine lv_iconst (v := 0) hx hb dX9_clean_9 (by decide) ?_
    refine lv_iconst (v := 1) hx hb dX9_clean_10 (by decide) ?_
    refine vp_callSi (W.runS (As := [.int a2, .int 0, .int 1]) (rest := []) ⟨hx, hb, hml, hown, hts⟩ (wX9_in l a2 0 1 (fX9_in a2 0 1) rfl) (va_cwS 3 hts (lw_S q979 q980 q70 q981) rfl rfl rfl (by decide +kernel) ⟨Nat.le_of_ble_eq_true rfl, Nat.le_of_ble_eq_true rfl⟩) (sm_ps) rfl rfl hl.1 rfl (lv_room (Nat.le_of_ble_eq_true rfl)) dX9_clean_11 ⟨Nat.le_of_ble_eq_true rfl, Nat.le_of_ble_eq_true rfl⟩) (fun r_5 er_4 => ?_)
    have er_4 := er_4.symm
    subst er_4
    refine lv_if_ne (tgt := 21) hx hb dX9_clean_14 (by decide) (fun c_6 => ?_) (fun c_6 => ?_)
    · have hf := (if_neg c_6).symm.trans hf
      refine lv_lconst (v := 1) hx hb dX9_clean_21 (by decide) ?_
      refine lv_lstore_n (lv' := [(3, .long 1), (0, .ref (ad 0)), (1, .int a1), (2, .int a2)]) hx hb dX9_clean_22 rfl hl (by decide) rfl (fun ls hl => ?_)
      refine lv_lconst (v := 1) hx hb dX9_clean_23 (by decide) ?_
      refine lv_lstore (lv' := [(5, .long 1), (3, .long 1), (0, .ref (ad 0)), (1, .int a1), (2, .int a2)]) hx hb dX9_clean_24 hl (by decide) rfl (fun ls hl => ?_)
      refine lv_iconst (v := 0) hx hb dX9_clean_26 (by decide) ?_
      refine lv_istore (lv' := [(7, .int 0), (5, .long 1), (3, .long 1), (0, .ref (ad 0)), (1, .int a1), (2, .int a2)]) hx hb dX9_clean_27 hl (by decide) rfl (fun ls hl => ?_)
      have L_15 : ∀ (n : Nat) (x_7 : Int32) (x_8 : Int64) (x_9 : Int64) (o_16 : Int32) (o_17 : Int64) (o_18 : Int64) (ls : Array Slot), sm_lp (fun q => fX9_clean_29 S a1 q.1 q.2.1 q.2.2) n (x_7, x_8, x_9) = some (o_16, o_17, o_18) → lv_has ls 8 [(0, .ref (ad 0)), (1, .int a1), (2, .int a2), (7, .int x_7), (5, .long x_8), (3, .long x_9)] → (∀ (ls : Array Slot), lv_has ls 8 [(0, .ref (ad 0)), (1, .int a1), (2, .int a2), (7, .int o_16), (5, .long o_17), (3, .long o_18)] → W p l e rX9_clean s m args below meth c s.heap [] 0 0 Q (F0 m 83 ls [])) → W p l e rX9_clean s m args below meth c s.heap [] 0 0 Q (F0 m 29 ls []) := by
        intro n
        induction n with
        | zero =>
          intro _ _ _ _ _ _ _ hf
          cases hf
        | succ n ih_10 =>
          intro x_7 x_8 x_9 o_16 o_17 o_18 ls hf hl kx_11
          obtain ⟨q, hf, hc_14⟩ := sm_bnd hf
          have hf : fX9_clean_29 S a1 x_7 x_8 x_9 = some q := hf
          unfold fX9_clean_29 at hf
          refine lv_iload hx hb dX9_clean_29 (lv_at hl 3 rfl) ?_
          refine lv_aload_n hx hb dX9_clean_31 rfl (lv_at hl 0 rfl) ?_
          refine va_get (D := (g.1, g.2.1)) (ci := 9) (v := .int (S.1 3)) (C := RX9) (T := TX9) (N := 39) hx hb hts in_X9 hown hK hP 0 rfl rfl 3 (by decide) (hts _ q859) (fun _ h9 => h9) rfl dX9_clean_32 ?_
          refine lv_icmp_ge (tgt := 83) hx hb dX9_clean_35 (by decide) (fun c_19 => ?_) (fun c_19 => ?_)
          · have hf := (if_pos c_19).symm.trans hf
            cases hf
            have hc_14 : some (x_7, x_8, x_9) = some (o_16, o_17, o_18) := hc_14
            cases hc_14
            exact kx_11 _ (lv_sub hl [0, 1, 2, 3, 4, 5] rfl)
          · have hf := (if_neg c_19).symm.trans hf
            refine lv_aload_n hx hb dX9_clean_38 rfl (lv_at hl 0 rfl) ?_
            refine va_get (D := (g.1, g.2.1)) (ci := 9) (v := .ref (ad 7)) (C := RX9) (T := TX9) (N := 39) hx hb hts in_X9 hown hK hP 0 rfl rfl 7 (by decide) (hts _ q863) (fun _ h9 => h9) rfl dX9_clean_39 ?_
            refine lv_iconst (v := 2) hx hb dX9_clean_42 (by decide) ?_
            refine lv_iload hx hb dX9_clean_43 (lv_at hl 3 rfl) ?_
            refine lv_iadd hx hb dX9_clean_45 ?_
            obtain ⟨hg, hf⟩ := sm_gd_e hf
            refine va_iald hx hb hK hP 3 0 rfl rfl (sm_in hg) dX9_clean_46 ?_
            refine lv_iload_n hx hb dX9_clean_47 rfl (lv_at hl 1 rfl) ?_
            refine lv_icmp_ne (tgt := 77) hx hb dX9_clean_48 (by decide) (fun c_20 => ?_) (fun c_20 => ?_)
            · have hf := (if_neg c_20).symm.trans hf
              refine lv_iinc (v := x_7 + 1) (lv' := [(7, .int (x_7 + 1)), (0, .ref (ad 0)), (1, .int a1), (2, .int a2), (5, .long x_8), (3, .long x_9)]) hx hb dX9_clean_77 hl (k := 3) rfl rfl (by decide) rfl (fun ls hl => ?_)
              refine lv_goto (tgt := 29) hx hb dX9_clean_80 (by decide) ?_
              cases hf
              exact ih_10 _ _ _ _ _ _ _ hc_14 (lv_sub hl [1, 2, 3, 0, 4, 5] rfl) kx_11
            · have hf := (if_pos c_20).symm.trans hf
              refine lv_lload_n hx hb dX9_clean_51 rfl (lv_at hl 5 rfl) ?_
              refine lv_bipush (v := 10) hx hb dX9_clean_52 (by decide) ?_
              refine lv_aload_n hx hb dX9_clean_54 rfl (lv_at hl 0 rfl) ?_
              refine va_get (D := (g.1, g.2.1)) (ci := 9) (v := .ref (ad 4)) (C := RX9) (T := TX9) (N := 39) hx hb hts in_X9 hown hK hP 0 rfl rfl 4 (by decide) (hts _ q860) (fun _ h9 => h9) rfl dX9_clean_55 ?_
              refine lv_iconst (v := 2) hx hb dX9_clean_58 (by decide) ?_
              refine lv_iload hx hb dX9_clean_59 (lv_at hl 3 rfl) ?_
              refine lv_imul hx hb dX9_clean_61 ?_
              refine lv_iconst (v := 1) hx hb dX9_clean_62 (by decide) ?_
              refine lv_iadd hx hb dX9_clean_63 ?_
              obtain ⟨hg, hf⟩ := sm_gd_e hf
              refine va_iald hx hb hK hP 1 0 rfl rfl (sm_in hg) dX9_clean_64 ?_
              refine lv_isub hx hb dX9_clean_65 ?_
              refine lv_i2l (v := (10 - (S.2.1 4 ((2 * x_7) + 1).toNatClampNeg)).toInt64) hx hb dX9_clean_66 rfl ?_
              refine lv_lmul hx hb dX9_clean_67 ?_
              refine lv_topl (fun x_21 ex_21 => ?_)
              have hf := sm_lt_v hf ex_21
              refine lv_lstore_n (lv' := [(3, .long x_21), (0, .ref (ad 0)), (1, .int a1), (2, .int a2), (7, .int x_7), (5, .long x_8)]) hx hb dX9_clean_68 rfl hl (by decide) rfl (fun ls hl => ?_)
              refine lv_lload hx hb dX9_clean_69 (lv_at hl 5 rfl) ?_
              refine lv_ldc2 (v := 10) hx hb hown (hts _ q1142) dX9_clean_71 ?_
              refine lv_lmul hx hb dX9_clean_74 ?_
              refine lv_lstore (lv' := [(5, .long (x_8 * 10)), (3, .long x_21), (0, .ref (ad 0)), (1, .int a1), (2, .int a2), (7, .int x_7)]) hx hb dX9_clean_75 hl (by decide) rfl (fun ls hl => ?_)
              refine lv_iinc (v := x_7 + 1) (lv' := [(7, .int (x_7 + 1)), (5, .long (x_8 * 10)), (3, .long x_21), (0, .ref (ad 0)), (1, .int a1), (2, .int a2)]) hx hb dX9_clean_77 hl (k := 5) rfl rfl (by decide) rfl (fun ls hl => ?_)
              refine lv_goto (tgt := 29) hx hb dX9_clean_80 (by decide) ?_
              cases hf
              exact ih_10 _ _ _ _ _ _ _ hc_14 (lv_sub hl [3, 4, 5, 0, 1, 2] rfl) kx_11
      obtain ⟨x_23, x_24, x_25, ho, hf⟩ := sm_b3_e hf
      refine L_15 FU 0 1 1 x_23 x_24 x_25 ls ho (lv_sub hl [3, 4, 5, 0, 1, 2] rfl) ?_
      intro ls hl
      refine lv_lload_n hx hb dX9_clean_83 rfl (lv_at hl 5 rfl) ?_
      refine lv_lload hx hb dX9_clean_84 (lv_at hl 4 rfl) ?_
      refine lv_iload_n hx hb dX9_clean_86 rfl (lv_at hl 2 rfl) ?_
      obtain ⟨r_26, h_27, hf⟩ := sm_b1_e hf
      refine vp_callSl (W.runS (As := [.long x_25, .long x_24, .int a2]) (rest := []) ⟨hx, hb, hml, hown, hts⟩ (wX9_share l x_25 x_24 a2 r_26 h_27) (va_cwS 3 hts (lw_S q1143 q1144 q70 q1145) rfl rfl rfl (by decide +kernel) ⟨Nat.le_of_ble_eq_true rfl, Nat.le_of_ble_eq_true rfl⟩) (sm_ps) rfl rfl hl.1 rfl (lv_room (Nat.le_of_ble_eq_true rfl)) dX9_clean_87 ⟨Nat.le_of_ble_eq_true rfl, Nat.le_of_ble_eq_true rfl⟩) (fun r_29 er_28 => ?_)
      have er_28 := er_28.symm
      subst er_28
      have hf := Option.some.inj hf
      rw [← hQ]
      exact W.lret (v := r_26) hx hb hr (fun t ht hW => ⟨_, rfl, hf, ht⟩) (fun _ h => by cases h) dX9_clean_90
    · have hf := (if_pos c_6).symm.trans hf
      refine lv_ldc2 (v := (-1)) hx hb hown (hts _ q1141) dX9_clean_17 ?_
      have hf := Option.some.inj hf
      rw [← hQ]
      exact W.lret (v := (-1)) hx hb hr (fun t ht hW => ⟨_, rfl, hf, ht⟩) (fun _ h => by cases h) dX9_clean_20
abbrev rX9_smokes : Room := { frames := 2, cells := 0, slots := 0, locals := 43 }
set_option maxHeartbeats 4000000 in
theorem wX9_smokes (l : Launch) (g : GG) (ad : Nat → Nat) (S : MS) (a1 : Int32) (Sf : MS) (rf : Int32) (hf : fX9_smokes S a1 = some (Sf, rf)) : Met l yX9_smokes (ws_ yX9_smokes cX9_smokes 4 (some .int)) rX9_smokes (va_Pc [.ref (ad 0), .int a1] (fun U => PP g (WM g ad S) U.heap ∧ EV g U ∧ va_D (AM ad) (WM g ad S))) (va_Qi (fun y (_ : Unit) => y = rf) (fun _ t => PP g (WM g ad Sf) t.heap ∧ va_D (AM ad) (WM g ad Sf)) (AM ad)) 0 0 (AM ad) := by
  refine sm_st (by decide) ?_
  intro p e s m args below meth c hx hb hr hlocks hml hown hnm hts hv
  obtain ⟨hargs, hP, hE, hD⟩ := hv
  obtain ⟨hK, hN⟩ := id hE
  have hS : va_S (AM ad) s.heap s.heap [] := va_S.rf
  have hown : s.vm.findClass RX9 = some m.cls := hown
  refine sm_en _ (Nat.le_of_ble_eq_true rfl) hargs (fun ls hl => ?_)
  have hl : lv_has ls 4 [(0, .ref (ad 0)), (1, .int a1)] := hl
  generalize hQ : MQ below _ args s _ _ _ = Q
  unfold fX9_smokes at hf
  refine lv_aload_n hx hb dX9_smokes_0 rfl (lv_at hl 0 rfl) ?_
  refine lv_iload_n hx hb dX9_smokes_1 rfl (lv_at hl 1 rfl) ?_
  refine vp_callSi (W.runV (As := [.int a1]) (rest := []) ⟨hx, hb, hml, hown, hts⟩ (wX9_isClerk l g ad S a1 (fX9_isClerk S a1) rfl) (cwV 1 hts (lw_V q1037 q1039 qs31 q70 q1040) rfl rfl rfl (by decide +kernel) ⟨Nat.le_of_ble_eq_true rfl, Nat.le_of_ble_eq_true rfl⟩) (sm_pv hE hP (va_recv hK hP (ci := 9) (q0 := 0) rfl rfl)) rfl rfl hl.1 rfl (lv_room (Nat.le_of_ble_eq_true rfl)) dX9_smokes_2 ⟨Nat.le_of_ble_eq_true rfl, Nat.le_of_ble_eq_true rfl⟩) (fun r_2 er_1 => ?_)
  have er_1 := er_1.symm
  subst er_1
  refine lv_if_ne (tgt := 10) hx hb dX9_smokes_5 (by decide) (fun c_3 => ?_) (fun c_3 => ?_)
  · have hf := (if_neg c_3).symm.trans hf
    refine lv_aload_n hx hb dX9_smokes_10 rfl (lv_at hl 0 rfl) ?_
    obtain ⟨S_4, h_5, hf⟩ := sm_b1_e hf
    refine va_callv (va_runV (As := []) (rest := []) ⟨hx, hb, hml, hown, hts⟩ (wX9_remembers l g ad S  S_4 h_5) (cwV 0 hts (lw_V q1069 q1071 qs37 q70 q1072) rfl rfl rfl (by decide +kernel) ⟨Nat.le_of_ble_eq_true rfl, Nat.le_of_ble_eq_true rfl⟩) (sm_pe hE hP hD (va_recv hK hP (ci := 9) (q0 := 0) rfl rfl)) rfl rfl hl.1 rfl (lv_room (Nat.le_of_ble_eq_true rfl)) dX9_smokes_11 ⟨Nat.le_of_ble_eq_true rfl, Nat.le_of_ble_eq_true rfl⟩) hS (fun _ _ h => h) (fun _ h => h) (fun u t H locs ht hvm er_6 hB hz hk hS => ?_)
    obtain ⟨hP, hD⟩ := hB
    rw [ht] at hP
    refine lv_iconst (v := 0) hx hb dX9_smokes_14 (by decide) ?_
    refine lv_istore_n (lv' := [(2, .int 0), (0, .ref (ad 0)), (1, .int a1)]) hx hb dX9_smokes_15 rfl hl (by decide) rfl (fun ls hl => ?_)
    refine lv_iconst (v := 0) hx hb dX9_smokes_16 (by decide) ?_
    refine lv_istore_n (lv' := [(3, .int 0), (2, .int 0), (0, .ref (ad 0)), (1, .int a1)]) hx hb dX9_smokes_17 rfl hl (by decide) rfl (fun ls hl => ?_)
    have L_16 : ∀ (n : Nat) (x_8 : Int32) (x_9 : Int32) (S_10 : MS) (o_17 : Int32) (o_18 : Int32) (o_19 : MS) (H : Heap) (locs : List Loc) (ls : Array Slot), sm_lp (fun q => fX9_smokes_18 a1 q.1 q.2.1 q.2.2) n (x_8, x_9, S_10) = some (o_17, o_18, o_19) → PP g (WM g ad S_10) H → va_D (AM ad) (WM g ad S_10) → va_S (AM ad) s.heap H locs → lv_has ls 4 [(0, .ref (ad 0)), (1, .int a1), (3, .int x_8), (2, .int x_9)] → (∀ (H : Heap) (locs : List Loc) (ls : Array Slot), PP g (WM g ad o_19) H → va_D (AM ad) (WM g ad o_19) → va_S (AM ad) s.heap H locs → lv_has ls 4 [(0, .ref (ad 0)), (1, .int a1), (3, .int o_17), (2, .int o_18)] → W p l e rX9_smokes s m args below meth c H locs 0 0 Q (F0 m 80 ls [])) → W p l e rX9_smokes s m args below meth c H locs 0 0 Q (F0 m 18 ls []) := by
      intro n
      induction n with
      | zero =>
        intro _ _ _ _ _ _ _ _ _ hf
        cases hf
      | succ n ih_11 =>
        intro x_8 x_9 S_10 o_17 o_18 o_19 H locs ls hf hP hD hS hl kx_12
        obtain ⟨q, hf, hc_15⟩ := sm_bnd hf
        have hf : fX9_smokes_18 a1 x_8 x_9 S_10 = some q := hf
        unfold fX9_smokes_18 at hf
        refine lv_iload_n hx hb dX9_smokes_18 rfl (lv_at hl 2 rfl) ?_
        refine lv_aload_n hx hb dX9_smokes_19 rfl (lv_at hl 0 rfl) ?_
        refine va_get (D := (g.1, g.2.1)) (ci := 9) (v := .ref (ad 7)) (C := RX9) (T := TX9) (N := 39) hx hb hts in_X9 hown hK hP 0 rfl rfl 7 (by decide) (hts _ q863) (fun _ h9 => h9) rfl dX9_smokes_20 ?_
        refine lv_bipush (v := 20) hx hb dX9_smokes_23 (by decide) ?_
        refine va_iald hx hb hK hP 3 0 rfl rfl (sm_in rfl) dX9_smokes_25 ?_
        refine lv_icmp_ge (tgt := 80) hx hb dX9_smokes_26 (by decide) (fun c_20 => ?_) (fun c_20 => ?_)
        · have hf := (if_pos c_20).symm.trans hf
          cases hf
          have hc_15 : some (x_8, x_9, S_10) = some (o_17, o_18, o_19) := hc_15
          cases hc_15
          exact kx_12 _ _ _ hP hD hS (lv_sub hl [0, 1, 2, 3] rfl)
        · have hf := (if_neg c_20).symm.trans hf
          refine lv_aload_n hx hb dX9_smokes_29 rfl (lv_at hl 0 rfl) ?_
          refine va_get (D := (g.1, g.2.1)) (ci := 9) (v := .ref (ad 7)) (C := RX9) (T := TX9) (N := 39) hx hb hts in_X9 hown hK hP 0 rfl rfl 7 (by decide) (hts _ q863) (fun _ h9 => h9) rfl dX9_smokes_30 ?_
          refine lv_bipush (v := 21) hx hb dX9_smokes_33 (by decide) ?_
          refine lv_iload_n hx hb dX9_smokes_35 rfl (lv_at hl 2 rfl) ?_
          refine lv_iadd hx hb dX9_smokes_36 ?_
          refine lv_aload_n hx hb dX9_smokes_37 rfl (lv_at hl 0 rfl) ?_
          refine lv_iload_n hx hb dX9_smokes_38 rfl (lv_at hl 1 rfl) ?_
          refine lv_aload_n hx hb dX9_smokes_39 rfl (lv_at hl 0 rfl) ?_
          refine va_get (D := (g.1, g.2.1)) (ci := 9) (v := .ref (ad 7)) (C := RX9) (T := TX9) (N := 39) hx hb hts in_X9 hown hK hP 0 rfl rfl 7 (by decide) (hts _ q863) (fun _ h9 => h9) rfl dX9_smokes_40 ?_
          refine lv_bipush (v := 21) hx hb dX9_smokes_43 (by decide) ?_
          refine lv_iload_n hx hb dX9_smokes_45 rfl (lv_at hl 2 rfl) ?_
          refine lv_iadd hx hb dX9_smokes_46 ?_
          obtain ⟨hg, hf⟩ := sm_gd_e hf
          refine va_iald hx hb hK hP 3 0 rfl rfl (sm_in hg) dX9_smokes_47 ?_
          obtain ⟨r_21, h_22, hf⟩ := sm_b1_e hf
          refine vp_callSi (W.runV (As := [.int a1, .int (S_10.2.1 7 (21 + x_8).toNatClampNeg)]) (rest := [.int (21 + x_8), .ref (ad 7)]) ⟨hx, hb, hml, hown, hts⟩ (wX9_madeOf l g ad S_10 a1 (S_10.2.1 7 (21 + x_8).toNatClampNeg) r_21 h_22) (cwV 2 hts (lw_V q1167 q1169 qs46 q70 q1170) rfl rfl rfl (by decide +kernel) ⟨Nat.le_of_ble_eq_true rfl, Nat.le_of_ble_eq_true rfl⟩) (sm_pv hE hP (va_recv hK hP (ci := 9) (q0 := 0) rfl rfl)) rfl rfl hl.1 rfl (lv_room (Nat.le_of_ble_eq_true rfl)) dX9_smokes_48 ⟨Nat.le_of_ble_eq_true rfl, Nat.le_of_ble_eq_true rfl⟩) (fun r_24 er_23 => ?_)
          have er_23 := er_23.symm
          subst er_23
          obtain ⟨hg, hf⟩ := sm_gd_e hf
          refine va_iast (i := 21 + x_8) (x := r_21) hx hb hK hP hD hS 3 0 rfl rfl (sm_in hg) dX9_smokes_51 (fun H locs hP hD hS => ?_)
          obtain ⟨S_25, eS_25, hf⟩ := sm_lt_e hf
          have hP : PP g (WM g ad S_25) H := by rw [eS_25]; exact pmr7 hP
          have hD : va_D (AM ad) (WM g ad S_25) := by rw [eS_25]; exact dmr7 hD
          refine lv_iload_n hx hb dX9_smokes_52 rfl (lv_at hl 3 rfl) ?_
          refine lv_aload_n hx hb dX9_smokes_53 rfl (lv_at hl 0 rfl) ?_
          refine va_get (D := (g.1, g.2.1)) (ci := 9) (v := .ref (ad 7)) (C := RX9) (T := TX9) (N := 39) hx hb hts in_X9 hown hK hP 0 rfl rfl 7 (by decide) (hts _ q863) (fun _ h9 => h9) rfl dX9_smokes_54 ?_
          refine lv_bipush (v := 21) hx hb dX9_smokes_57 (by decide) ?_
          refine lv_iload_n hx hb dX9_smokes_59 rfl (lv_at hl 2 rfl) ?_
          refine lv_iadd hx hb dX9_smokes_60 ?_
          obtain ⟨hg, hf⟩ := sm_gd_e hf
          refine va_iald hx hb hK hP 3 0 rfl rfl (sm_in hg) dX9_smokes_61 ?_
          refine lv_bipush (v := 10) hx hb dX9_smokes_62 (by decide) ?_
          refine lv_icmp_ne (tgt := 71) hx hb dX9_smokes_64 (by decide) (fun c_26 => ?_) (fun c_26 => ?_)
          · have hf := (if_neg c_26).symm.trans hf
            refine lv_iconst (v := 0) hx hb dX9_smokes_71 (by decide) ?_
            refine lv_iadd hx hb dX9_smokes_72 ?_
            refine lv_istore_n (lv' := [(2, .int (x_9 + 0)), (0, .ref (ad 0)), (1, .int a1), (3, .int x_8)]) hx hb dX9_smokes_73 rfl hl (by decide) rfl (fun ls hl => ?_)
            refine lv_iinc (v := x_8 + 1) (lv' := [(3, .int (x_8 + 1)), (2, .int (x_9 + 0)), (0, .ref (ad 0)), (1, .int a1)]) hx hb dX9_smokes_74 hl (k := 3) rfl rfl (by decide) rfl (fun ls hl => ?_)
            refine lv_goto (tgt := 18) hx hb dX9_smokes_77 (by decide) ?_
            cases hf
            exact ih_11 _ _ _ _ _ _ _ _ _ hc_15 hP hD hS (lv_sub hl [2, 3, 0, 1] rfl) kx_12
          · have hf := (if_pos c_26).symm.trans hf
            refine lv_iconst (v := 1) hx hb dX9_smokes_67 (by decide) ?_
            refine lv_goto (tgt := 72) hx hb dX9_smokes_68 (by decide) ?_
            refine lv_iadd hx hb dX9_smokes_72 ?_
            refine lv_istore_n (lv' := [(2, .int (x_9 + 1)), (0, .ref (ad 0)), (1, .int a1), (3, .int x_8)]) hx hb dX9_smokes_73 rfl hl (by decide) rfl (fun ls hl => ?_)
            refine lv_iinc (v := x_8 + 1) (lv' := [(3, .int (x_8 + 1)), (2, .int (x_9 + 1)), (0, .ref (ad 0)), (1, .int a1)]) hx hb dX9_smokes_74 hl (k := 3) rfl rfl (by decide) rfl (fun ls hl => ?_)
            refine lv_goto (tgt := 18) hx hb dX9_smokes_77 (by decide) ?_
            cases hf
            exact ih_11 _ _ _ _ _ _ _ _ _ hc_15 hP hD hS (lv_sub hl [2, 3, 0, 1] rfl) kx_12
    obtain ⟨x_28, x_29, S_30, ho, hf⟩ := sm_b3_e hf
    refine L_16 FU 0 0 S_4 x_28 x_29 S_30 H locs ls ho hP hD hS (lv_sub hl [2, 3, 0, 1] rfl) ?_
    intro H locs ls hP hD hS hl
    refine lv_iload_n hx hb dX9_smokes_80 rfl (lv_at hl 3 rfl) ?_
    have hf := Option.some.inj hf
    rw [← hQ]
    have hf := Prod.mk.inj hf
    exact W.iret (v := x_29) hx hb hr (fun t ht hW => ⟨⟨_, (), rfl, hf.2, by rw [ht, ← hf.1]; exact hP, by rw [← hf.1]; exact hD⟩, hS.F ht⟩) hS.2.2 dX9_smokes_81
  · have hf := (if_pos c_3).symm.trans hf
    refine lv_iconst (v := (-1)) hx hb dX9_smokes_8 (by decide) ?_
    have hf := Option.some.inj hf
    rw [← hQ]
    have hf := Prod.mk.inj hf
    exact W.iret (v := (-1)) hx hb hr (fun t ht hW => ⟨⟨_, (), rfl, hf.2, by rw [ht, ← hf.1]; exact hP, by rw [← hf.1]; exact hD⟩, hS.F ht⟩) hS.2.2 dX9_smokes_9
abbrev rX9_smokesOn : Room := { frames := 2, cells := 0, slots := 0, locals := 43 }
set_option maxHeartbeats 4000000 in
theorem wX9_smokesOn (l : Launch) (g : GG) (ad : Nat → Nat) (S : MS) (a1 : Int32) (Sf : MS) (hf : fX9_smokesOn S a1 = some Sf) : Met l yX9_smokesOn (ws_ yX9_smokesOn cX9_smokesOn 3 none) rX9_smokesOn (va_Pc [.ref (ad 0), .int a1] (fun U => PP g (WM g ad S) U.heap ∧ EV g U ∧ va_D (AM ad) (WM g ad S))) (va_Qv (fun (_ : Unit) => True) (fun _ t => PP g (WM g ad Sf) t.heap ∧ va_D (AM ad) (WM g ad Sf)) (AM ad)) 0 0 (AM ad) := by
  refine sm_st (by decide) ?_
  intro p e s m args below meth c hx hb hr hlocks hml hown hnm hts hv
  obtain ⟨hargs, hP, hE, hD⟩ := hv
  obtain ⟨hK, hN⟩ := id hE
  have hS : va_S (AM ad) s.heap s.heap [] := va_S.rf
  have hown : s.vm.findClass RX9 = some m.cls := hown
  refine sm_en _ (Nat.le_of_ble_eq_true rfl) hargs (fun ls hl => ?_)
  have hl : lv_has ls 3 [(0, .ref (ad 0)), (1, .int a1)] := hl
  generalize hQ : MQ below _ args s _ _ _ = Q
  unfold fX9_smokesOn at hf
  refine lv_iconst (v := 0) hx hb dX9_smokesOn_0 (by decide) ?_
  refine lv_istore_n (lv' := [(2, .int 0), (0, .ref (ad 0)), (1, .int a1)]) hx hb dX9_smokesOn_1 rfl hl (by decide) rfl (fun ls hl => ?_)
  have L_8 : ∀ (n : Nat) (x_1 : Int32) (S_2 : MS) (o_9 : Int32) (o_10 : MS) (H : Heap) (locs : List Loc) (ls : Array Slot), sm_lp (fun q => fX9_smokesOn_2 a1 q.1 q.2) n (x_1, S_2) = some (o_9, o_10) → PP g (WM g ad S_2) H → va_D (AM ad) (WM g ad S_2) → va_S (AM ad) s.heap H locs → lv_has ls 3 [(0, .ref (ad 0)), (1, .int a1), (2, .int x_1)] → (∀ (H : Heap) (locs : List Loc) (ls : Array Slot), PP g (WM g ad o_10) H → va_D (AM ad) (WM g ad o_10) → va_S (AM ad) s.heap H locs → lv_has ls 3 [(0, .ref (ad 0)), (1, .int a1), (2, .int o_9)] → W p l e rX9_smokesOn s m args below meth c H locs 0 0 Q (F0 m 33 ls [])) → W p l e rX9_smokesOn s m args below meth c H locs 0 0 Q (F0 m 2 ls []) := by
    intro n
    induction n with
    | zero =>
      intro _ _ _ _ _ _ _ hf
      cases hf
    | succ n ih_3 =>
      intro x_1 S_2 o_9 o_10 H locs ls hf hP hD hS hl kx_4
      obtain ⟨q, hf, hc_7⟩ := sm_bnd hf
      have hf : fX9_smokesOn_2 a1 x_1 S_2 = some q := hf
      unfold fX9_smokesOn_2 at hf
      refine lv_iload_n hx hb dX9_smokesOn_2 rfl (lv_at hl 2 rfl) ?_
      refine lv_aload_n hx hb dX9_smokesOn_3 rfl (lv_at hl 0 rfl) ?_
      refine va_get (D := (g.1, g.2.1)) (ci := 9) (v := .int (S_2.1 37)) (C := RX9) (T := TX9) (N := 39) hx hb hts in_X9 hown hK hP 0 rfl rfl 37 (by decide) (hts _ q893) (fun _ h9 => h9) rfl dX9_smokesOn_4 ?_
      refine lv_icmp_ge (tgt := 33) hx hb dX9_smokesOn_7 (by decide) (fun c_11 => ?_) (fun c_11 => ?_)
      · have hf := (if_pos c_11).symm.trans hf
        cases hf
        have hc_7 : some (x_1, S_2) = some (o_9, o_10) := hc_7
        cases hc_7
        exact kx_4 _ _ _ hP hD hS (lv_sub hl [0, 1, 2] rfl)
      · have hf := (if_neg c_11).symm.trans hf
        refine lv_aload_n hx hb dX9_smokesOn_10 rfl (lv_at hl 0 rfl) ?_
        refine va_get (D := (g.1, g.2.1)) (ci := 9) (v := .ref (ad 36)) (C := RX9) (T := TX9) (N := 39) hx hb hts in_X9 hown hK hP 0 rfl rfl 36 (by decide) (hts _ q892) (fun _ h9 => h9) rfl dX9_smokesOn_11 ?_
        refine lv_iload_n hx hb dX9_smokesOn_14 rfl (lv_at hl 2 rfl) ?_
        refine lv_aload_n hx hb dX9_smokesOn_15 rfl (lv_at hl 0 rfl) ?_
        refine lv_iload_n hx hb dX9_smokesOn_16 rfl (lv_at hl 1 rfl) ?_
        refine lv_aload_n hx hb dX9_smokesOn_17 rfl (lv_at hl 0 rfl) ?_
        refine va_get (D := (g.1, g.2.1)) (ci := 9) (v := .ref (ad 36)) (C := RX9) (T := TX9) (N := 39) hx hb hts in_X9 hown hK hP 0 rfl rfl 36 (by decide) (hts _ q892) (fun _ h9 => h9) rfl dX9_smokesOn_18 ?_
        refine lv_iload_n hx hb dX9_smokesOn_21 rfl (lv_at hl 2 rfl) ?_
        obtain ⟨hg, hf⟩ := sm_gd_e hf
        refine va_iald hx hb hK hP 19 0 rfl rfl (sm_in hg) dX9_smokesOn_22 ?_
        obtain ⟨r_12, h_13, hf⟩ := sm_b1_e hf
        refine vp_callSi (W.runV (As := [.int a1, .int (S_2.2.1 36 x_1.toNatClampNeg)]) (rest := [.int x_1, .ref (ad 36)]) ⟨hx, hb, hml, hown, hts⟩ (wX9_madeOf l g ad S_2 a1 (S_2.2.1 36 x_1.toNatClampNeg) r_12 h_13) (cwV 2 hts (lw_V q1167 q1169 qs46 q70 q1170) rfl rfl rfl (by decide +kernel) ⟨Nat.le_of_ble_eq_true rfl, Nat.le_of_ble_eq_true rfl⟩) (sm_pv hE hP (va_recv hK hP (ci := 9) (q0 := 0) rfl rfl)) rfl rfl hl.1 rfl (lv_room (Nat.le_of_ble_eq_true rfl)) dX9_smokesOn_23 ⟨Nat.le_of_ble_eq_true rfl, Nat.le_of_ble_eq_true rfl⟩) (fun r_15 er_14 => ?_)
        have er_14 := er_14.symm
        subst er_14
        obtain ⟨hg, hf⟩ := sm_gd_e hf
        refine va_iast (i := x_1) (x := r_12) hx hb hK hP hD hS 19 0 rfl rfl (sm_in hg) dX9_smokesOn_26 (fun H locs hP hD hS => ?_)
        obtain ⟨S_16, eS_16, hf⟩ := sm_lt_e hf
        have hP : PP g (WM g ad S_16) H := by rw [eS_16]; exact pmr36 hP
        have hD : va_D (AM ad) (WM g ad S_16) := by rw [eS_16]; exact dmr36 hD
        refine lv_iinc (v := x_1 + 1) (lv' := [(2, .int (x_1 + 1)), (0, .ref (ad 0)), (1, .int a1)]) hx hb dX9_smokesOn_27 hl (k := 2) rfl rfl (by decide) rfl (fun ls hl => ?_)
        refine lv_goto (tgt := 2) hx hb dX9_smokesOn_30 (by decide) ?_
        cases hf
        exact ih_3 _ _ _ _ _ _ _ hc_7 hP hD hS (lv_sub hl [1, 2, 0] rfl) kx_4
  obtain ⟨x_18, S_19, ho, hf⟩ := sm_b2_e hf
  refine L_8 FU 0 S x_18 S_19 s.heap [] ls ho hP hD hS (lv_sub hl [1, 2, 0] rfl) ?_
  intro H locs ls hP hD hS hl
  have hf := Option.some.inj hf
  rw [← hQ]
  exact W.vret hx hb hr (fun t ht hW => ⟨⟨(), rfl, trivial, by rw [ht, ← hf]; exact hP, by rw [← hf]; exact hD⟩, hS.F ht⟩) hS.2.2 dX9_smokesOn_33
abbrev rX9_makes : Room := { frames := 3, cells := 0, slots := 0, locals := 65 }
set_option maxHeartbeats 4000000 in
theorem wX9_makes (l : Launch) (g : GG) (ad : Nat → Nat) (S : MS) (a1 : Int32) (a2 : Int32) (Sf : MS) (rf : Int32) (hf : fX9_makes S a1 a2 = some (Sf, rf)) : Met l yX9_makes (ws_ yX9_makes cX9_makes 6 (some .boolean)) rX9_makes (va_Pc [.ref (ad 0), .int a1, .int a2] (fun U => PP g (WM g ad S) U.heap ∧ EV g U ∧ va_D (AM ad) (WM g ad S))) (va_Qi (fun y (_ : Unit) => y = rf) (fun _ t => PP g (WM g ad Sf) t.heap ∧ va_D (AM ad) (WM g ad Sf)) (AM ad)) 0 0 (AM ad) := by
  refine sm_st (by decide) ?_
  intro p e s m args below meth c hx hb hr hlocks hml hown hnm hts hv
  obtain ⟨hargs, hP, hE, hD⟩ := hv
  obtain ⟨hK, hN⟩ := id hE
  have hS : va_S (AM ad) s.heap s.heap [] := va_S.rf
  have hown : s.vm.findClass RX9 = some m.cls := hown
  refine sm_en _ (Nat.le_of_ble_eq_true rfl) hargs (fun ls hl => ?_)
  have hl : lv_has ls 6 [(0, .ref (ad 0)), (1, .int a1), (2, .int a2)] := hl
  generalize hQ : MQ below _ args s _ _ _ = Q
  unfold fX9_makes at hf
  refine lv_iload_n hx hb dX9_makes_0 rfl (lv_at hl 2 rfl) ?_
  refine lv_istore_n (lv' := [(3, .int a2), (0, .ref (ad 0)), (1, .int a1), (2, .int a2)]) hx hb dX9_makes_1 rfl hl (by decide) rfl (fun ls hl => ?_)
  refine lv_iconst (v := 0) hx hb dX9_makes_2 (by decide) ?_
  refine lv_istore (lv' := [(4, .int 0), (3, .int a2), (0, .ref (ad 0)), (1, .int a1), (2, .int a2)]) hx hb dX9_makes_3 hl (by decide) rfl (fun ls hl => ?_)
  refine lv_iload_n hx hb dX9_makes_5 rfl (lv_at hl 3 rfl) ?_
  refine lv_iconst (v := 1) hx hb dX9_makes_6 (by decide) ?_
  refine lv_isub hx hb dX9_makes_7 ?_
  refine lv_istore (lv' := [(5, .int (a1 - 1)), (4, .int 0), (3, .int a2), (0, .ref (ad 0)), (1, .int a1), (2, .int a2)]) hx hb dX9_makes_8 hl (by decide) rfl (fun ls hl => ?_)
  have L_10 : ∀ (n : Nat) (x_1 : Int32) (x_2 : Int32) (x_3 : Int32) (S_4 : MS) (o_11 : Int32) (o_12 : Int32) (o_13 : Int32) (o_14 : MS) (H : Heap) (locs : List Loc) (ls : Array Slot), sm_lp (fun q => fX9_makes_10 q.1 q.2.1 q.2.2.1 q.2.2.2) n (x_1, x_2, x_3, S_4) = some (o_11, o_12, o_13, o_14) → PP g (WM g ad S_4) H → va_D (AM ad) (WM g ad S_4) → va_S (AM ad) s.heap H locs → lv_has ls 6 [(0, .ref (ad 0)), (1, .int a1), (2, .int a2), (5, .int x_1), (4, .int x_2), (3, .int x_3)] → (∀ (H : Heap) (locs : List Loc) (ls : Array Slot), PP g (WM g ad o_14) H → va_D (AM ad) (WM g ad o_14) → va_S (AM ad) s.heap H locs → lv_has ls 6 [(0, .ref (ad 0)), (1, .int a1), (2, .int a2), (5, .int o_11), (4, .int o_12), (3, .int o_13)] → W p l e rX9_makes s m args below meth c H locs 0 0 Q (F0 m 55 ls [])) → W p l e rX9_makes s m args below meth c H locs 0 0 Q (F0 m 10 ls []) := by
    intro n
    induction n with
    | zero =>
      intro _ _ _ _ _ _ _ _ _ _ _ hf
      cases hf
    | succ n ih_5 =>
      intro x_1 x_2 x_3 S_4 o_11 o_12 o_13 o_14 H locs ls hf hP hD hS hl kx_6
      obtain ⟨q, hf, hc_9⟩ := sm_bnd hf
      have hf : fX9_makes_10 x_1 x_2 x_3 S_4 = some q := hf
      unfold fX9_makes_10 at hf
      refine lv_iload hx hb dX9_makes_10 (lv_at hl 3 rfl) ?_
      refine lv_if_lt (tgt := 55) hx hb dX9_makes_12 (by decide) (fun c_15 => ?_) (fun c_15 => ?_)
      · have hf := (if_pos c_15).symm.trans hf
        cases hf
        have hc_9 : some (x_1, x_2, x_3, S_4) = some (o_11, o_12, o_13, o_14) := hc_9
        cases hc_9
        exact kx_6 _ _ _ hP hD hS (lv_sub hl [0, 1, 2, 3, 4, 5] rfl)
      · have hf := (if_neg c_15).symm.trans hf
        refine lv_aload_n hx hb dX9_makes_15 rfl (lv_at hl 0 rfl) ?_
        refine va_get (D := (g.1, g.2.1)) (ci := 9) (v := .ref (ad 38)) (C := RX9) (T := TX9) (N := 39) hx hb hts in_X9 hown hK hP 0 rfl rfl 38 (by decide) (hts _ q894) (fun _ h9 => h9) rfl dX9_makes_16 ?_
        refine lv_iload hx hb dX9_makes_19 (lv_at hl 3 rfl) ?_
        refine lv_iload_n hx hb dX9_makes_21 rfl (lv_at hl 5 rfl) ?_
        refine lv_aload_n hx hb dX9_makes_22 rfl (lv_at hl 0 rfl) ?_
        refine va_get (D := (g.1, g.2.1)) (ci := 9) (v := .int (S_4.1 5)) (C := RX9) (T := TX9) (N := 39) hx hb hts in_X9 hown hK hP 0 rfl rfl 5 (by decide) (hts _ q861) (fun _ h9 => h9) rfl dX9_makes_23 ?_
        obtain ⟨hg, hf⟩ := sm_gd_e hf
        refine lv_irem hx hb dX9_makes_26 (sm_ne hg) ?_
        obtain ⟨hg, hf⟩ := sm_gd_e hf
        refine va_iast (i := x_1) (x := x_3 - x_3 / (S_4.1 5) * (S_4.1 5)) hx hb hK hP hD hS 20 0 rfl rfl (sm_in hg) dX9_makes_27 (fun H locs hP hD hS => ?_)
        obtain ⟨S_16, eS_16, hf⟩ := sm_lt_e hf
        have hP : PP g (WM g ad S_16) H := by rw [eS_16]; exact pmr38 hP
        have hD : va_D (AM ad) (WM g ad S_16) := by rw [eS_16]; exact dmr38 hD
        refine lv_iload hx hb dX9_makes_28 (lv_at hl 4 rfl) ?_
        refine lv_iconst (v := 1) hx hb dX9_makes_30 (by decide) ?_
        refine lv_aload_n hx hb dX9_makes_31 rfl (lv_at hl 0 rfl) ?_
        refine va_get (D := (g.1, g.2.1)) (ci := 9) (v := .ref (ad 38)) (C := RX9) (T := TX9) (N := 39) hx hb hts in_X9 hown hK hP 0 rfl rfl 38 (by decide) (hts _ q894) (fun _ h9 => h9) rfl dX9_makes_32 ?_
        refine lv_iload hx hb dX9_makes_35 (lv_at hl 3 rfl) ?_
        obtain ⟨hg, hf⟩ := sm_gd_e hf
        refine va_iald hx hb hK hP 20 0 rfl rfl (sm_in hg) dX9_makes_37 ?_
        refine lv_ishl hx hb dX9_makes_38 ?_
        refine lv_ior hx hb dX9_makes_39 ?_
        refine lv_topi (fun x_17 ex_17 => ?_)
        have hf := sm_lt_v hf ex_17
        refine lv_istore (lv' := [(4, .int x_17), (0, .ref (ad 0)), (1, .int a1), (2, .int a2), (5, .int x_1), (3, .int x_3)]) hx hb dX9_makes_40 hl (by decide) rfl (fun ls hl => ?_)
        refine lv_iload_n hx hb dX9_makes_42 rfl (lv_at hl 5 rfl) ?_
        refine lv_aload_n hx hb dX9_makes_43 rfl (lv_at hl 1 rfl) ?_
        refine va_get (D := (g.1, g.2.1)) (ci := 9) (v := .int (S_16.1 5)) (C := RX9) (T := TX9) (N := 39) hx hb hts in_X9 hown hK hP 0 rfl rfl 5 (by decide) (hts _ q861) (fun _ h9 => h9) rfl dX9_makes_44 ?_
        obtain ⟨hg, hf⟩ := sm_gd_e hf
        refine lv_idiv hx hb dX9_makes_47 (sm_ne hg) ?_
        refine lv_istore_n (lv' := [(3, .int (x_3 / (S_16.1 5))), (4, .int x_17), (0, .ref (ad 0)), (1, .int a1), (2, .int a2), (5, .int x_1)]) hx hb dX9_makes_48 rfl hl (by decide) rfl (fun ls hl => ?_)
        refine lv_iinc (v := x_1 + (-1)) (lv' := [(5, .int (x_1 + (-1))), (3, .int (x_3 / (S_16.1 5))), (4, .int x_17), (0, .ref (ad 0)), (1, .int a1), (2, .int a2)]) hx hb dX9_makes_49 hl (k := 5) rfl rfl (by decide) rfl (fun ls hl => ?_)
        refine lv_goto (tgt := 10) hx hb dX9_makes_52 (by decide) ?_
        cases hf
        exact ih_5 _ _ _ _ _ _ _ _ _ _ _ hc_9 hP hD hS (lv_sub hl [3, 4, 5, 0, 2, 1] rfl) kx_6
  obtain ⟨x_19, x_20, x_21, S_22, ho, hf⟩ := sm_b4_e hf
  refine L_10 FU (a1 - 1) 0 a2 S x_19 x_20 x_21 S_22 s.heap [] ls ho hP hD hS (lv_sub hl [3, 4, 5, 0, 1, 2] rfl) ?_
  intro H locs ls hP hD hS hl
  refine lv_aload_n hx hb dX9_makes_55 rfl (lv_at hl 0 rfl) ?_
  obtain ⟨S_23, h_24, hf⟩ := sm_b1_e hf
  refine va_callv (va_runV (As := []) (rest := []) ⟨hx, hb, hml, hown, hts⟩ (wX9_begins l g ad S_22  S_23 h_24) (cwV 0 hts (lw_V q1216 q1218 qs52 q70 q1219) rfl rfl rfl (by decide +kernel) ⟨Nat.le_of_ble_eq_true rfl, Nat.le_of_ble_eq_true rfl⟩) (sm_pe hE hP hD (va_recv hK hP (ci := 9) (q0 := 0) rfl rfl)) rfl rfl hl.1 rfl (lv_room (Nat.le_of_ble_eq_true rfl)) dX9_makes_56 ⟨Nat.le_of_ble_eq_true rfl, Nat.le_of_ble_eq_true rfl⟩) hS (fun _ _ h => h) (fun _ h => h) (fun u t H locs ht hvm er_25 hB hz hk hS => ?_)
  obtain ⟨hP, hD⟩ := hB
  rw [ht] at hP
  refine lv_iconst (v := 0) hx hb dX9_makes_59 (by decide) ?_
  refine lv_istore (lv' := [(5, .int 0), (0, .ref (ad 0)), (1, .int a1), (2, .int a2), (4, .int x_20), (3, .int x_21)]) hx hb dX9_makes_60 hl (by decide) rfl (fun ls hl => ?_)
  have L_34 : ∀ (n : Nat) (x_27 : Int32) (S_28 : MS) (o_35 : Int32) (o_36 : MS) (H : Heap) (locs : List Loc) (ls : Array Slot), sm_lp (fun q => fX9_makes_62 a1 q.1 q.2) n (x_27, S_28) = some (o_35, o_36) → PP g (WM g ad S_28) H → va_D (AM ad) (WM g ad S_28) → va_S (AM ad) s.heap H locs → lv_has ls 6 [(0, .ref (ad 0)), (1, .int a1), (2, .int a2), (4, .int x_20), (3, .int x_21), (5, .int x_27)] → (∀ (H : Heap) (locs : List Loc) (ls : Array Slot), PP g (WM g ad o_36) H → va_D (AM ad) (WM g ad o_36) → va_S (AM ad) s.heap H locs → lv_has ls 6 [(0, .ref (ad 0)), (1, .int a1), (2, .int a2), (4, .int x_20), (3, .int x_21), (5, .int o_35)] → W p l e rX9_makes s m args below meth c H locs 0 0 Q (F0 m 85 ls [])) → W p l e rX9_makes s m args below meth c H locs 0 0 Q (F0 m 62 ls []) := by
    intro n
    induction n with
    | zero =>
      intro _ _ _ _ _ _ _ hf
      cases hf
    | succ n ih_29 =>
      intro x_27 S_28 o_35 o_36 H locs ls hf hP hD hS hl kx_30
      obtain ⟨q, hf, hc_33⟩ := sm_bnd hf
      have hf : fX9_makes_62 a1 x_27 S_28 = some q := hf
      unfold fX9_makes_62 at hf
      refine lv_iload hx hb dX9_makes_62 (lv_at hl 5 rfl) ?_
      refine lv_iload_n hx hb dX9_makes_64 rfl (lv_at hl 1 rfl) ?_
      refine lv_icmp_ge (tgt := 85) hx hb dX9_makes_65 (by decide) (fun c_37 => ?_) (fun c_37 => ?_)
      · have hf := (if_pos c_37).symm.trans hf
        cases hf
        have hc_33 : some (x_27, S_28) = some (o_35, o_36) := hc_33
        cases hc_33
        exact kx_30 _ _ _ hP hD hS (lv_sub hl [0, 1, 2, 3, 4, 5] rfl)
      · have hf := (if_neg c_37).symm.trans hf
        refine lv_aload_n hx hb dX9_makes_68 rfl (lv_at hl 0 rfl) ?_
        refine lv_aload_n hx hb dX9_makes_69 rfl (lv_at hl 0 rfl) ?_
        refine va_get (D := (g.1, g.2.1)) (ci := 9) (v := .ref (ad 38)) (C := RX9) (T := TX9) (N := 39) hx hb hts in_X9 hown hK hP 0 rfl rfl 38 (by decide) (hts _ q894) (fun _ h9 => h9) rfl dX9_makes_70 ?_
        refine lv_iload hx hb dX9_makes_73 (lv_at hl 5 rfl) ?_
        obtain ⟨hg, hf⟩ := sm_gd_e hf
        refine va_iald hx hb hK hP 20 0 rfl rfl (sm_in hg) dX9_makes_75 ?_
        obtain ⟨S_38, h_39, hf⟩ := sm_b1_e hf
        refine va_callv (va_runV (As := [.int (S_28.2.1 38 x_27.toNatClampNeg)]) (rest := []) ⟨hx, hb, hml, hown, hts⟩ (wX9_smokesOn l g ad S_28 (S_28.2.1 38 x_27.toNatClampNeg) S_38 h_39) (cwV 1 hts (lw_V q1220 q1222 qs53 q70 q1223) rfl rfl rfl (by decide +kernel) ⟨Nat.le_of_ble_eq_true rfl, Nat.le_of_ble_eq_true rfl⟩) (sm_pe hE hP hD (va_recv hK hP (ci := 9) (q0 := 0) rfl rfl)) rfl rfl hl.1 rfl (lv_room (Nat.le_of_ble_eq_true rfl)) dX9_makes_76 ⟨Nat.le_of_ble_eq_true rfl, Nat.le_of_ble_eq_true rfl⟩) hS (fun _ _ h => h) (fun _ h => h) (fun u t H locs ht hvm er_40 hB hz hk hS => ?_)
        obtain ⟨hP, hD⟩ := hB
        rw [ht] at hP
        refine lv_iinc (v := x_27 + 1) (lv' := [(5, .int (x_27 + 1)), (0, .ref (ad 0)), (1, .int a1), (2, .int a2), (4, .int x_20), (3, .int x_21)]) hx hb dX9_makes_79 hl (k := 5) rfl rfl (by decide) rfl (fun ls hl => ?_)
        refine lv_goto (tgt := 62) hx hb dX9_makes_82 (by decide) ?_
        cases hf
        exact ih_29 _ _ _ _ _ _ _ hc_33 hP hD hS (lv_sub hl [1, 2, 3, 4, 5, 0] rfl) kx_30
  obtain ⟨x_43, S_44, ho, hf⟩ := sm_b2_e hf
  refine L_34 FU 0 S_23 x_43 S_44 H locs ls ho hP hD hS (lv_sub hl [1, 2, 3, 4, 5, 0] rfl) ?_
  intro H locs ls hP hD hS hl
  refine lv_iload hx hb dX9_makes_85 (lv_at hl 3 rfl) ?_
  obtain ⟨r_45, h_46, hf⟩ := sm_b1_e hf
  refine vp_callSi (W.runS (As := [.int x_20]) (rest := []) ⟨hx, hb, hml, hown, hts⟩ (wX9_bits l x_20 r_45 h_46) (va_cwS 1 hts (lw_S q1085 q1086 q70 q1087) rfl rfl rfl (by decide +kernel) ⟨Nat.le_of_ble_eq_true rfl, Nat.le_of_ble_eq_true rfl⟩) (sm_ps) rfl rfl hl.1 rfl (lv_room (Nat.le_of_ble_eq_true rfl)) dX9_makes_87 ⟨Nat.le_of_ble_eq_true rfl, Nat.le_of_ble_eq_true rfl⟩) (fun r_48 er_47 => ?_)
  have er_47 := er_47.symm
  subst er_47
  refine lv_iload_n hx hb dX9_makes_90 rfl (lv_at hl 1 rfl) ?_
  refine lv_icmp_ne (tgt := 109) hx hb dX9_makes_91 (by decide) (fun c_49 => ?_) (fun c_49 => ?_)
  · have hf := (if_neg c_49).symm.trans hf
    refine lv_iconst (v := 0) hx hb dX9_makes_109 (by decide) ?_
    have hf := Option.some.inj hf
    rw [← hQ]
    have hf := Prod.mk.inj hf
    exact W.zret (v := 0) hx hb hr rfl (fun t ht hW => ⟨⟨_, (), rfl, hf.2, by rw [ht, ← hf.1]; exact hP, by rw [← hf.1]; exact hD⟩, hS.F ht⟩) hS.2.2 dX9_makes_110
  · have hf := (if_pos c_49).symm.trans hf
    refine lv_aload_n hx hb dX9_makes_94 rfl (lv_at hl 0 rfl) ?_
    refine lv_aload_n hx hb dX9_makes_95 rfl (lv_at hl 0 rfl) ?_
    refine va_get (D := (g.1, g.2.1)) (ci := 9) (v := .ref (ad 36)) (C := RX9) (T := TX9) (N := 39) hx hb hts in_X9 hown hK hP 0 rfl rfl 36 (by decide) (hts _ q892) (fun _ h9 => h9) rfl dX9_makes_96 ?_
    obtain ⟨r_50, h_51, hf⟩ := sm_b1_e hf
    refine vp_callSi (W.runV (As := [.ref (ad 36)]) (rest := []) ⟨hx, hb, hml, hown, hts⟩ (wX9_isLetter_19 l g ad S_44  r_50 h_51) (cwV 1 hts (lw_V q1224 q1226 qs54 q70 q1227) rfl rfl rfl (by decide +kernel) ⟨Nat.le_of_ble_eq_true rfl, Nat.le_of_ble_eq_true rfl⟩) (sm_pv hE hP (va_recv hK hP (ci := 9) (q0 := 0) rfl rfl)) rfl rfl hl.1 rfl (lv_room (Nat.le_of_ble_eq_true rfl)) dX9_makes_99 ⟨Nat.le_of_ble_eq_true rfl, Nat.le_of_ble_eq_true rfl⟩) (fun r_53 er_52 => ?_)
    have er_52 := er_52.symm
    subst er_52
    refine lv_if_eq (tgt := 109) hx hb dX9_makes_102 (by decide) (fun c_54 => ?_) (fun c_54 => ?_)
    · have hf := (if_pos c_54).symm.trans hf
      refine lv_iconst (v := 0) hx hb dX9_makes_109 (by decide) ?_
      have hf := Option.some.inj hf
      rw [← hQ]
      have hf := Prod.mk.inj hf
      exact W.zret (v := 0) hx hb hr rfl (fun t ht hW => ⟨⟨_, (), rfl, hf.2, by rw [ht, ← hf.1]; exact hP, by rw [← hf.1]; exact hD⟩, hS.F ht⟩) hS.2.2 dX9_makes_110
    · have hf := (if_neg c_54).symm.trans hf
      refine lv_iconst (v := 1) hx hb dX9_makes_105 (by decide) ?_
      refine lv_goto (tgt := 110) hx hb dX9_makes_106 (by decide) ?_
      have hf := Option.some.inj hf
      rw [← hQ]
      have hf := Prod.mk.inj hf
      exact W.zret (v := 1) hx hb hr rfl (fun t ht hW => ⟨⟨_, (), rfl, hf.2, by rw [ht, ← hf.1]; exact hP, by rw [← hf.1]; exact hD⟩, hS.F ht⟩) hS.2.2 dX9_makes_110
abbrev rX9_chain : Room := { frames := 4, cells := 0, slots := 0, locals := 90 }
set_option maxHeartbeats 4000000 in
theorem wX9_chain (l : Launch) (g : GG) (ad : Nat → Nat) (S : MS) (a1 : Int32) (a2 : Int32) (Sf : MS) (rf : Int32) (hf : fX9_chain S a1 a2 = some (Sf, rf)) : Met l yX9_chain (ws_ yX9_chain cX9_chain 5 (some .int)) rX9_chain (va_Pc [.ref (ad 0), .int a1, .int a2] (fun U => PP g (WM g ad S) U.heap ∧ EV g U ∧ va_D (AM ad) (WM g ad S))) (va_Qi (fun y (_ : Unit) => y = rf) (fun _ t => PP g (WM g ad Sf) t.heap ∧ va_D (AM ad) (WM g ad Sf)) (AM ad)) 0 0 (AM ad) := by
  refine sm_st (by decide) ?_
  intro p e s m args below meth c hx hb hr hlocks hml hown hnm hts hv
  obtain ⟨hargs, hP, hE, hD⟩ := hv
  obtain ⟨hK, hN⟩ := id hE
  have hS : va_S (AM ad) s.heap s.heap [] := va_S.rf
  have hown : s.vm.findClass RX9 = some m.cls := hown
  refine sm_en _ (Nat.le_of_ble_eq_true rfl) hargs (fun ls hl => ?_)
  have hl : lv_has ls 5 [(0, .ref (ad 0)), (1, .int a1), (2, .int a2)] := hl
  generalize hQ : MQ below _ args s _ _ _ = Q
  unfold fX9_chain at hf
  refine lv_iload_n hx hb dX9_chain_0 rfl (lv_at hl 2 rfl) ?_
  refine lv_iconst (v := (-1)) hx hb dX9_chain_1 (by decide) ?_
  refine lv_icmp_lt (tgt := 13) hx hb dX9_chain_2 (by decide) (fun c_1 => ?_) (fun c_1 => ?_)
  · have hf := (if_pos c_1).symm.trans hf
    refine lv_iconst (v := (-1)) hx hb dX9_chain_13 (by decide) ?_
    have hf := Option.some.inj hf
    rw [← hQ]
    have hf := Prod.mk.inj hf
    exact W.iret (v := (-1)) hx hb hr (fun t ht hW => ⟨⟨_, (), rfl, hf.2, by rw [ht, ← hf.1]; exact hP, by rw [← hf.1]; exact hD⟩, hS.F ht⟩) hS.2.2 dX9_chain_14
  · have hf := (if_neg c_1).symm.trans hf
    refine lv_aload_n hx hb dX9_chain_5 rfl (lv_at hl 0 rfl) ?_
    refine lv_iload_n hx hb dX9_chain_6 rfl (lv_at hl 1 rfl) ?_
    obtain ⟨S_2, r_4, h_3, hf⟩ := sm_b2_e hf
    refine va_calli (va_runV (As := [.int a1]) (rest := []) ⟨hx, hb, hml, hown, hts⟩ (wX9_reads l g ad S a1 S_2 r_4 h_3) (cwV 1 hts (lw_V q1211 q1213 qs51 q70 q1214) rfl rfl rfl (by decide +kernel) ⟨Nat.le_of_ble_eq_true rfl, Nat.le_of_ble_eq_true rfl⟩) (sm_pe hE hP hD (va_recv hK hP (ci := 9) (q0 := 0) rfl rfl)) rfl rfl hl.1 rfl (lv_room (Nat.le_of_ble_eq_true rfl)) dX9_chain_7 ⟨Nat.le_of_ble_eq_true rfl, Nat.le_of_ble_eq_true rfl⟩) hS (fun _ _ h => h) (fun _ h => h) (fun r_6 u t H locs ht hvm er_5 hB hz hk hS => ?_)
    have er_5 := er_5.symm
    subst er_5
    obtain ⟨hP, hD⟩ := hB
    rw [ht] at hP
    refine lv_if_ne (tgt := 15) hx hb dX9_chain_10 (by decide) (fun c_7 => ?_) (fun c_7 => ?_)
    · have hf := (if_neg c_7).symm.trans hf
      refine lv_iconst (v := 0) hx hb dX9_chain_15 (by decide) ?_
      refine lv_istore_n (lv' := [(3, .int 0), (0, .ref (ad 0)), (1, .int a1), (2, .int a2)]) hx hb dX9_chain_16 rfl hl (by decide) rfl (fun ls hl => ?_)
      have L_15 : ∀ (n : Nat) (x_8 : Int32) (S_9 : MS) (o_13 : ((Int32 × MS) ⊕ (MS × Int32))) (H : Heap) (locs : List Loc) (ls : Array Slot), sm_lp (fun q => fX9_chain_17 a2 q.1 q.2) n (x_8, S_9) = some o_13 → PP g (WM g ad S_9) H → va_D (AM ad) (WM g ad S_9) → va_S (AM ad) s.heap H locs → lv_has ls 5 [(0, .ref (ad 0)), (1, .int a1), (2, .int a2), (3, .int x_8)] → (∀ (x_8 : Int32) (S_9 : MS) (H : Heap) (locs : List Loc) (ls : Array Slot), o_13 = Sum.inl (x_8, S_9) → PP g (WM g ad S_9) H → va_D (AM ad) (WM g ad S_9) → va_S (AM ad) s.heap H locs → lv_has ls 5 [(0, .ref (ad 0)), (1, .int a1), (2, .int a2), (3, .int x_8)] → W p l e rX9_chain s m args below meth c H locs 0 0 Q (F0 m 89 ls [])) → (∀ rv : (MS × Int32), o_13 = Sum.inr rv → rv = (Sf, rf)) → W p l e rX9_chain s m args below meth c H locs 0 0 Q (F0 m 17 ls []) := by
        intro n
        induction n with
        | zero =>
          intro _ _ _ _ _ _ hf
          cases hf
        | succ n ih_10 =>
          intro x_8 S_9 o_13 H locs ls hf hP hD hS hl kx_11 kr_12
          obtain ⟨q, hf, hc_14⟩ := sm_bnd hf
          have hf : fX9_chain_17 a2 x_8 S_9 = some q := hf
          unfold fX9_chain_17 at hf
          refine lv_iload_n hx hb dX9_chain_17 rfl (lv_at hl 3 rfl) ?_
          refine lv_aload_n hx hb dX9_chain_18 rfl (lv_at hl 0 rfl) ?_
          refine va_get (D := (g.1, g.2.1)) (ci := 9) (v := .int (S_9.1 5)) (C := RX9) (T := TX9) (N := 39) hx hb hts in_X9 hown hK hP 0 rfl rfl 5 (by decide) (hts _ q861) (fun _ h9 => h9) rfl dX9_chain_19 ?_
          refine lv_icmp_gt (tgt := 89) hx hb dX9_chain_22 (by decide) (fun c_18 => ?_) (fun c_18 => ?_)
          · have hf := (if_pos c_18).symm.trans hf
            cases hf
            exact kx_11 _ _ _ _ _ (Option.some.inj hc_14).symm hP hD hS (lv_sub hl [0, 1, 2, 3] rfl)
          · have hf := (if_neg c_18).symm.trans hf
            refine lv_iconst (v := 0) hx hb dX9_chain_25 (by decide) ?_
            refine lv_istore (lv' := [(4, .int 0), (0, .ref (ad 0)), (1, .int a1), (2, .int a2), (3, .int x_8)]) hx hb dX9_chain_26 hl (by decide) rfl (fun ls hl => ?_)
            have L_26 : ∀ (n : Nat) (x_19 : Int32) (S_20 : MS) (o_24 : ((Int32 × MS) ⊕ (MS × Int32))) (H : Heap) (locs : List Loc) (ls : Array Slot), sm_lp (fun q => fX9_chain_28 a2 x_8 q.1 q.2) n (x_19, S_20) = some o_24 → PP g (WM g ad S_20) H → va_D (AM ad) (WM g ad S_20) → va_S (AM ad) s.heap H locs → lv_has ls 5 [(0, .ref (ad 0)), (1, .int a1), (2, .int a2), (3, .int x_8), (4, .int x_19)] → (∀ (x_19 : Int32) (S_20 : MS) (H : Heap) (locs : List Loc) (ls : Array Slot), o_24 = Sum.inl (x_19, S_20) → PP g (WM g ad S_20) H → va_D (AM ad) (WM g ad S_20) → va_S (AM ad) s.heap H locs → lv_has ls 5 [(0, .ref (ad 0)), (1, .int a1), (2, .int a2), (3, .int x_8), (4, .int x_19)] → W p l e rX9_chain s m args below meth c H locs 0 0 Q (F0 m 83 ls [])) → (∀ rv : (MS × Int32), o_24 = Sum.inr rv → rv = (Sf, rf)) → W p l e rX9_chain s m args below meth c H locs 0 0 Q (F0 m 28 ls []) := by
              intro n
              induction n with
              | zero =>
                intro _ _ _ _ _ _ hf
                cases hf
              | succ n ih_21 =>
                intro x_19 S_20 o_24 H locs ls hf hP hD hS hl kx_22 kr_23
                obtain ⟨q, hf, hc_25⟩ := sm_bnd hf
                have hf : fX9_chain_28 a2 x_8 x_19 S_20 = some q := hf
                unfold fX9_chain_28 at hf
                refine lv_iload hx hb dX9_chain_28 (lv_at hl 4 rfl) ?_
                refine lv_aload_n hx hb dX9_chain_30 rfl (lv_at hl 0 rfl) ?_
                refine lv_aload_n hx hb dX9_chain_31 rfl (lv_at hl 0 rfl) ?_
                refine va_get (D := (g.1, g.2.1)) (ci := 9) (v := .int (S_20.1 5)) (C := RX9) (T := TX9) (N := 39) hx hb hts in_X9 hown hK hP 0 rfl rfl 5 (by decide) (hts _ q861) (fun _ h9 => h9) rfl dX9_chain_32 ?_
                refine lv_iload_n hx hb dX9_chain_35 rfl (lv_at hl 3 rfl) ?_
                obtain ⟨r_29, h_30, hf⟩ := sm_b1_e hf
                refine vp_callSi (W.runV (As := [.int (S_20.1 5), .int x_8]) (rest := [.int x_19]) ⟨hx, hb, hml, hown, hts⟩ (wX9_power l g ad S_20 (S_20.1 5) x_8 r_29 h_30) (cwV 2 hts (lw_V q1096 q1098 qs39 q70 q1099) rfl rfl rfl (by decide +kernel) ⟨Nat.le_of_ble_eq_true rfl, Nat.le_of_ble_eq_true rfl⟩) (sm_pv hE hP (va_recv hK hP (ci := 9) (q0 := 0) rfl rfl)) rfl rfl hl.1 rfl (lv_room (Nat.le_of_ble_eq_true rfl)) dX9_chain_36 ⟨Nat.le_of_ble_eq_true rfl, Nat.le_of_ble_eq_true rfl⟩) (fun r_32 er_31 => ?_)
                have er_31 := er_31.symm
                subst er_31
                refine lv_icmp_ge (tgt := 83) hx hb dX9_chain_39 (by decide) (fun c_33 => ?_) (fun c_33 => ?_)
                · have hf := (if_pos c_33).symm.trans hf
                  cases hf
                  exact kx_22 _ _ _ _ _ (Option.some.inj hc_25).symm hP hD hS (lv_sub hl [0, 1, 2, 3, 4] rfl)
                · have hf := (if_neg c_33).symm.trans hf
                  refine lv_aload_n hx hb dX9_chain_42 rfl (lv_at hl 0 rfl) ?_
                  refine lv_iload_n hx hb dX9_chain_43 rfl (lv_at hl 3 rfl) ?_
                  refine lv_iload hx hb dX9_chain_44 (lv_at hl 4 rfl) ?_
                  obtain ⟨S_34, r_36, h_35, hf⟩ := sm_b2_e hf
                  refine va_calli (va_runV (As := [.int x_8, .int x_19]) (rest := []) ⟨hx, hb, hml, hown, hts⟩ (wX9_makes l g ad S_20 x_8 x_19 S_34 r_36 h_35) (cwV 2 hts (lw_V q1232 q1234 qs55 q70 q1235) rfl rfl rfl (by decide +kernel) ⟨Nat.le_of_ble_eq_true rfl, Nat.le_of_ble_eq_true rfl⟩) (sm_pe hE hP hD (va_recv hK hP (ci := 9) (q0 := 0) rfl rfl)) rfl rfl hl.1 rfl (lv_room (Nat.le_of_ble_eq_true rfl)) dX9_chain_46 ⟨Nat.le_of_ble_eq_true rfl, Nat.le_of_ble_eq_true rfl⟩) hS (fun _ _ h => h) (fun _ h => h) (fun r_38 u t H locs ht hvm er_37 hB hz hk hS => ?_)
                  have er_37 := er_37.symm
                  subst er_37
                  obtain ⟨hP, hD⟩ := hB
                  rw [ht] at hP
                  refine lv_if_eq (tgt := 77) hx hb dX9_chain_49 (by decide) (fun c_39 => ?_) (fun c_39 => ?_)
                  · have hf := (if_pos c_39).symm.trans hf
                    refine lv_iinc (v := x_19 + 1) (lv' := [(4, .int (x_19 + 1)), (0, .ref (ad 0)), (1, .int a1), (2, .int a2), (3, .int x_8)]) hx hb dX9_chain_77 hl (k := 4) rfl rfl (by decide) rfl (fun ls hl => ?_)
                    refine lv_goto (tgt := 28) hx hb dX9_chain_80 (by decide) ?_
                    cases hf
                    exact ih_21 _ _ _ _ _ _ hc_25 hP hD hS (lv_sub hl [1, 2, 3, 4, 0] rfl) kx_22 kr_23
                  · have hf := (if_neg c_39).symm.trans hf
                    refine lv_iload_n hx hb dX9_chain_52 rfl (lv_at hl 2 rfl) ?_
                    refine lv_if_ge (tgt := 60) hx hb dX9_chain_53 (by decide) (fun c_40 => ?_) (fun c_40 => ?_)
                    · have hf := (if_pos c_40).symm.trans hf
                      refine lv_iload_n hx hb dX9_chain_60 rfl (lv_at hl 2 rfl) ?_
                      refine lv_iload_n hx hb dX9_chain_61 rfl (lv_at hl 3 rfl) ?_
                      refine lv_icmp_ge (tgt := 74) hx hb dX9_chain_62 (by decide) (fun c_41 => ?_) (fun c_41 => ?_)
                      · have hf := (if_pos c_41).symm.trans hf
                        refine lv_bipush (v := (-5)) hx hb dX9_chain_74 (by decide) ?_
                        cases hf
                        have hf := kr_23 _ (Option.some.inj hc_25).symm
                        rw [← hQ]
                        have hf := Prod.mk.inj hf
                        exact W.iret (v := (-5)) hx hb hr (fun t ht hW => ⟨⟨_, (), rfl, hf.2, by rw [ht, ← hf.1]; exact hP, by rw [← hf.1]; exact hD⟩, hS.F ht⟩) hS.2.2 dX9_chain_76
                      · have hf := (if_neg c_41).symm.trans hf
                        refine lv_aload_n hx hb dX9_chain_65 rfl (lv_at hl 0 rfl) ?_
                        refine va_get (D := (g.1, g.2.1)) (ci := 9) (v := .ref (ad 38)) (C := RX9) (T := TX9) (N := 39) hx hb hts in_X9 hown hK hP 0 rfl rfl 38 (by decide) (hts _ q894) (fun _ h9 => h9) rfl dX9_chain_66 ?_
                        refine lv_iload_n hx hb dX9_chain_69 rfl (lv_at hl 2 rfl) ?_
                        obtain ⟨hg, hf⟩ := sm_gd_e hf
                        refine va_iald hx hb hK hP 20 0 rfl rfl (sm_in hg) dX9_chain_70 ?_
                        refine lv_goto (tgt := 76) hx hb dX9_chain_71 (by decide) ?_
                        cases hf
                        have hf := kr_23 _ (Option.some.inj hc_25).symm
                        rw [← hQ]
                        have hf := Prod.mk.inj hf
                        exact W.iret (v := S_34.2.1 38 a2.toNatClampNeg) hx hb hr (fun t ht hW => ⟨⟨_, (), rfl, hf.2, by rw [ht, ← hf.1]; exact hP, by rw [← hf.1]; exact hD⟩, hS.F ht⟩) hS.2.2 dX9_chain_76
                    · have hf := (if_neg c_40).symm.trans hf
                      refine lv_iload_n hx hb dX9_chain_56 rfl (lv_at hl 3 rfl) ?_
                      refine lv_goto (tgt := 76) hx hb dX9_chain_57 (by decide) ?_
                      cases hf
                      have hf := kr_23 _ (Option.some.inj hc_25).symm
                      rw [← hQ]
                      have hf := Prod.mk.inj hf
                      exact W.iret (v := x_8) hx hb hr (fun t ht hW => ⟨⟨_, (), rfl, hf.2, by rw [ht, ← hf.1]; exact hP, by rw [← hf.1]; exact hD⟩, hS.F ht⟩) hS.2.2 dX9_chain_76
            obtain ⟨o_42, ho, hf⟩ := sm_r_e hf
            refine L_26 FU 0 S_9 o_42 H locs ls ho hP hD hS (lv_sub hl [1, 2, 3, 4, 0] rfl) ?_ ?_
            · intro x_43 S_44 H locs ls eo hP hD hS hl
              subst eo
              dsimp only [Sum.elim_inl, sm_u2] at hf
              refine lv_iinc (v := x_8 + 1) (lv' := [(3, .int (x_8 + 1)), (0, .ref (ad 0)), (1, .int a1), (2, .int a2), (4, .int x_43)]) hx hb dX9_chain_83 hl (k := 3) rfl rfl (by decide) rfl (fun ls hl => ?_)
              refine lv_goto (tgt := 17) hx hb dX9_chain_86 (by decide) ?_
              cases hf
              exact ih_10 _ _ _ _ _ _ hc_14 hP hD hS (lv_sub hl [1, 2, 3, 0] rfl) kx_11 kr_12
            · intro rv_45 eo
              subst eo
              have hf : some (Sum.inr (Sum.inr rv_45)) = _ := hf
              cases hf
              have hf := kr_12 _ (Option.some.inj hc_14).symm
              exact hf
      obtain ⟨o_46, ho, hf⟩ := sm_r_e hf
      refine L_15 FU 0 S_2 o_46 H locs ls ho hP hD hS (lv_sub hl [1, 2, 3, 0] rfl) ?_ ?_
      · intro x_47 S_48 H locs ls eo hP hD hS hl
        subst eo
        dsimp only [Sum.elim_inl, sm_u2] at hf
        refine lv_bipush (v := (-9)) hx hb dX9_chain_89 (by decide) ?_
        have hf := Option.some.inj hf
        rw [← hQ]
        have hf := Prod.mk.inj hf
        exact W.iret (v := (-9)) hx hb hr (fun t ht hW => ⟨⟨_, (), rfl, hf.2, by rw [ht, ← hf.1]; exact hP, by rw [← hf.1]; exact hD⟩, hS.F ht⟩) hS.2.2 dX9_chain_91
      · intro rv_49 eo
        subst eo
        have hf : some rv_49 = _ := hf
        have hf := Option.some.inj hf
        exact hf
    · have hf := (if_pos c_7).symm.trans hf
      refine lv_iconst (v := (-1)) hx hb dX9_chain_13 (by decide) ?_
      have hf := Option.some.inj hf
      rw [← hQ]
      have hf := Prod.mk.inj hf
      exact W.iret (v := (-1)) hx hb hr (fun t ht hW => ⟨⟨_, (), rfl, hf.2, by rw [ht, ← hf.1]; exact hP, by rw [← hf.1]; exact hD⟩, hS.F ht⟩) hS.2.2 dX9_chain_14
abbrev rX9_stoodAt : Room := { frames := 2, cells := 0, slots := 0, locals := 43 }
set_option maxHeartbeats 4000000 in
theorem wX9_stoodAt (l : Launch) (g : GG) (ad : Nat → Nat) (S : MS) (a1 : Int32) (rf : Int32) (hf : fX9_stoodAt S a1 = some rf) : Met l yX9_stoodAt (ws_ yX9_stoodAt cX9_stoodAt 6 (some .int)) rX9_stoodAt (va_Pc [.ref (ad 0), .int a1] (fun U => PP g (WM g ad S) U.heap ∧ EV g U)) (vp_Si (fun y => y = rf)) 0 0 (fun _ => False) := by
  refine sm_st (by decide) ?_
  intro p e s m args below meth c hx hb hr hlocks hml hown hnm hts hv
  obtain ⟨hargs, hP, hE⟩ := hv
  obtain ⟨hK, hN⟩ := id hE
  have hown : s.vm.findClass RX9 = some m.cls := hown
  refine sm_en _ (Nat.le_of_ble_eq_true rfl) hargs (fun ls hl => ?_)
  have hl : lv_has ls 6 [(0, .ref (ad 0)), (1, .int a1)] := hl
  generalize hQ : MQ below _ args s _ _ _ = Q
  unfold fX9_stoodAt at hf
  refine lv_iconst (v := 0) hx hb dX9_stoodAt_0 (by decide) ?_
  refine lv_istore_n (lv' := [(2, .int 0), (0, .ref (ad 0)), (1, .int a1)]) hx hb dX9_stoodAt_1 rfl hl (by decide) rfl (fun ls hl => ?_)
  refine lv_iconst (v := 0) hx hb dX9_stoodAt_2 (by decide) ?_
  refine lv_istore_n (lv' := [(3, .int 0), (2, .int 0), (0, .ref (ad 0)), (1, .int a1)]) hx hb dX9_stoodAt_3 rfl hl (by decide) rfl (fun ls hl => ?_)
  have L_8 : ∀ (n : Nat) (x_1 : Int32) (x_2 : Int32) (o_9 : Int32) (o_10 : Int32) (ls : Array Slot), sm_lp (fun q => fX9_stoodAt_4 S a1 q.1 q.2) n (x_1, x_2) = some (o_9, o_10) → lv_has ls 6 [(0, .ref (ad 0)), (1, .int a1), (3, .int x_1), (2, .int x_2)] → (∀ (ls : Array Slot), lv_has ls 6 [(0, .ref (ad 0)), (1, .int a1), (3, .int o_9), (2, .int o_10)] → W p l e rX9_stoodAt s m args below meth c s.heap [] 0 0 Q (F0 m 90 ls [])) → W p l e rX9_stoodAt s m args below meth c s.heap [] 0 0 Q (F0 m 4 ls []) := by
    intro n
    induction n with
    | zero =>
      intro _ _ _ _ _ hf
      cases hf
    | succ n ih_3 =>
      intro x_1 x_2 o_9 o_10 ls hf hl kx_4
      obtain ⟨q, hf, hc_7⟩ := sm_bnd hf
      have hf : fX9_stoodAt_4 S a1 x_1 x_2 = some q := hf
      unfold fX9_stoodAt_4 at hf
      refine lv_iload_n hx hb dX9_stoodAt_4 rfl (lv_at hl 2 rfl) ?_
      refine lv_bipush (v := 10) hx hb dX9_stoodAt_5 (by decide) ?_
      refine lv_icmp_ge (tgt := 90) hx hb dX9_stoodAt_7 (by decide) (fun c_11 => ?_) (fun c_11 => ?_)
      · have hf := (if_pos c_11).symm.trans hf
        cases hf
        have hc_7 : some (x_1, x_2) = some (o_9, o_10) := hc_7
        cases hc_7
        exact kx_4 _ (lv_sub hl [0, 1, 2, 3] rfl)
      · have hf := (if_neg c_11).symm.trans hf
        refine lv_iconst (v := 1) hx hb dX9_stoodAt_10 (by decide) ?_
        refine lv_istore (lv' := [(4, .int 1), (0, .ref (ad 0)), (1, .int a1), (3, .int x_1), (2, .int x_2)]) hx hb dX9_stoodAt_11 hl (by decide) rfl (fun ls hl => ?_)
        refine lv_iconst (v := 0) hx hb dX9_stoodAt_13 (by decide) ?_
        refine lv_istore (lv' := [(5, .int 0), (4, .int 1), (0, .ref (ad 0)), (1, .int a1), (3, .int x_1), (2, .int x_2)]) hx hb dX9_stoodAt_14 hl (by decide) rfl (fun ls hl => ?_)
        have L_19 : ∀ (n : Nat) (x_12 : Int32) (x_13 : Int32) (o_20 : Int32) (o_21 : Int32) (ls : Array Slot), sm_lp (fun q => fX9_stoodAt_16 S a1 x_1 q.1 q.2) n (x_12, x_13) = some (o_20, o_21) → lv_has ls 6 [(0, .ref (ad 0)), (1, .int a1), (3, .int x_1), (2, .int x_2), (5, .int x_12), (4, .int x_13)] → (∀ (ls : Array Slot), lv_has ls 6 [(0, .ref (ad 0)), (1, .int a1), (3, .int x_1), (2, .int x_2), (5, .int o_20), (4, .int o_21)] → W p l e rX9_stoodAt s m args below meth c s.heap [] 0 0 Q (F0 m 69 ls [])) → W p l e rX9_stoodAt s m args below meth c s.heap [] 0 0 Q (F0 m 16 ls []) := by
          intro n
          induction n with
          | zero =>
            intro _ _ _ _ _ hf
            cases hf
          | succ n ih_14 =>
            intro x_12 x_13 o_20 o_21 ls hf hl kx_15
            obtain ⟨q, hf, hc_18⟩ := sm_bnd hf
            have hf : fX9_stoodAt_16 S a1 x_1 x_12 x_13 = some q := hf
            unfold fX9_stoodAt_16 at hf
            refine lv_iload hx hb dX9_stoodAt_16 (lv_at hl 4 rfl) ?_
            refine lv_aload_n hx hb dX9_stoodAt_18 rfl (lv_at hl 0 rfl) ?_
            refine va_get (D := (g.1, g.2.1)) (ci := 9) (v := .int (S.1 12)) (C := RX9) (T := TX9) (N := 39) hx hb hts in_X9 hown hK hP 0 rfl rfl 12 (by decide) (hts _ q868) (fun _ h9 => h9) rfl dX9_stoodAt_19 ?_
            refine lv_icmp_ge (tgt := 69) hx hb dX9_stoodAt_22 (by decide) (fun c_22 => ?_) (fun c_22 => ?_)
            · have hf := (if_pos c_22).symm.trans hf
              cases hf
              have hc_18 : some (x_12, x_13) = some (o_20, o_21) := hc_18
              cases hc_18
              exact kx_15 _ (lv_sub hl [0, 1, 2, 3, 4, 5] rfl)
            · have hf := (if_neg c_22).symm.trans hf
              refine lv_iload hx hb dX9_stoodAt_25 (lv_at hl 5 rfl) ?_
              refine lv_if_eq (tgt := 60) hx hb dX9_stoodAt_27 (by decide) (fun c_23 => ?_) (fun c_23 => ?_)
              · have hf := (if_pos c_23).symm.trans hf
                refine lv_iconst (v := 0) hx hb dX9_stoodAt_60 (by decide) ?_
                refine lv_istore (lv' := [(4, .int 0), (0, .ref (ad 0)), (1, .int a1), (3, .int x_1), (2, .int x_2), (5, .int x_12)]) hx hb dX9_stoodAt_61 hl (by decide) rfl (fun ls hl => ?_)
                refine lv_iinc (v := x_12 + 1) (lv' := [(5, .int (x_12 + 1)), (4, .int 0), (0, .ref (ad 0)), (1, .int a1), (3, .int x_1), (2, .int x_2)]) hx hb dX9_stoodAt_63 hl (k := 5) rfl rfl (by decide) rfl (fun ls hl => ?_)
                refine lv_goto (tgt := 16) hx hb dX9_stoodAt_66 (by decide) ?_
                cases hf
                exact ih_14 _ _ _ _ _ hc_18 (lv_sub hl [2, 3, 4, 5, 0, 1] rfl) kx_15
              · have hf := (if_neg c_23).symm.trans hf
                refine lv_aload_n hx hb dX9_stoodAt_30 rfl (lv_at hl 0 rfl) ?_
                refine lv_aload_n hx hb dX9_stoodAt_31 rfl (lv_at hl 0 rfl) ?_
                refine va_get (D := (g.1, g.2.1)) (ci := 9) (v := .ref (ad 14)) (C := RX9) (T := TX9) (N := 39) hx hb hts in_X9 hown hK hP 0 rfl rfl 14 (by decide) (hts _ q870) (fun _ h9 => h9) rfl dX9_stoodAt_32 ?_
                refine lv_iload hx hb dX9_stoodAt_35 (lv_at hl 4 rfl) ?_
                obtain ⟨hg, hf⟩ := sm_gd_e hf
                refine va_iald hx hb hK hP 7 0 rfl rfl (sm_in hg) dX9_stoodAt_37 ?_
                refine lv_iload_n hx hb dX9_stoodAt_38 rfl (lv_at hl 2 rfl) ?_
                obtain ⟨r_24, h_25, hf⟩ := sm_b1_e hf
                refine vp_callSi (W.runV (As := [.int (S.2.1 14 x_12.toNatClampNeg), .int x_1]) (rest := []) ⟨hx, hb, hml, hown, hts⟩ (wX9_madeOf l g ad S (S.2.1 14 x_12.toNatClampNeg) x_1 r_24 h_25) (cwV 2 hts (lw_V q1167 q1169 qs46 q70 q1170) rfl rfl rfl (by decide +kernel) ⟨Nat.le_of_ble_eq_true rfl, Nat.le_of_ble_eq_true rfl⟩) (sm_pv hE hP (va_recv hK hP (ci := 9) (q0 := 0) rfl rfl)) rfl rfl hl.1 rfl (lv_room (Nat.le_of_ble_eq_true rfl)) dX9_stoodAt_39 ⟨Nat.le_of_ble_eq_true rfl, Nat.le_of_ble_eq_true rfl⟩) (fun r_27 er_26 => ?_)
                have er_26 := er_26.symm
                subst er_26
                refine lv_aload_n hx hb dX9_stoodAt_42 rfl (lv_at hl 0 rfl) ?_
                refine va_get (D := (g.1, g.2.1)) (ci := 9) (v := .ref (ad 15)) (C := RX9) (T := TX9) (N := 39) hx hb hts in_X9 hown hK hP 0 rfl rfl 15 (by decide) (hts _ q871) (fun _ h9 => h9) rfl dX9_stoodAt_43 ?_
                refine lv_iconst (v := 5) hx hb dX9_stoodAt_46 (by decide) ?_
                refine lv_iload hx hb dX9_stoodAt_47 (lv_at hl 4 rfl) ?_
                refine lv_imul hx hb dX9_stoodAt_49 ?_
                refine lv_iload_n hx hb dX9_stoodAt_50 rfl (lv_at hl 1 rfl) ?_
                refine lv_iadd hx hb dX9_stoodAt_51 ?_
                obtain ⟨hg, hf⟩ := sm_gd_e hf
                refine va_iald hx hb hK hP 8 0 rfl rfl (sm_in hg) dX9_stoodAt_52 ?_
                refine lv_icmp_ne (tgt := 60) hx hb dX9_stoodAt_53 (by decide) (fun c_28 => ?_) (fun c_28 => ?_)
                · have hf := (if_neg c_28).symm.trans hf
                  refine lv_iconst (v := 0) hx hb dX9_stoodAt_60 (by decide) ?_
                  refine lv_istore (lv' := [(4, .int 0), (0, .ref (ad 0)), (1, .int a1), (3, .int x_1), (2, .int x_2), (5, .int x_12)]) hx hb dX9_stoodAt_61 hl (by decide) rfl (fun ls hl => ?_)
                  refine lv_iinc (v := x_12 + 1) (lv' := [(5, .int (x_12 + 1)), (4, .int 0), (0, .ref (ad 0)), (1, .int a1), (3, .int x_1), (2, .int x_2)]) hx hb dX9_stoodAt_63 hl (k := 5) rfl rfl (by decide) rfl (fun ls hl => ?_)
                  refine lv_goto (tgt := 16) hx hb dX9_stoodAt_66 (by decide) ?_
                  cases hf
                  exact ih_14 _ _ _ _ _ hc_18 (lv_sub hl [2, 3, 4, 5, 0, 1] rfl) kx_15
                · have hf := (if_pos c_28).symm.trans hf
                  refine lv_iconst (v := 1) hx hb dX9_stoodAt_56 (by decide) ?_
                  refine lv_goto (tgt := 61) hx hb dX9_stoodAt_57 (by decide) ?_
                  refine lv_istore (lv' := [(4, .int 1), (0, .ref (ad 0)), (1, .int a1), (3, .int x_1), (2, .int x_2), (5, .int x_12)]) hx hb dX9_stoodAt_61 hl (by decide) rfl (fun ls hl => ?_)
                  refine lv_iinc (v := x_12 + 1) (lv' := [(5, .int (x_12 + 1)), (4, .int 1), (0, .ref (ad 0)), (1, .int a1), (3, .int x_1), (2, .int x_2)]) hx hb dX9_stoodAt_63 hl (k := 5) rfl rfl (by decide) rfl (fun ls hl => ?_)
                  refine lv_goto (tgt := 16) hx hb dX9_stoodAt_66 (by decide) ?_
                  cases hf
                  exact ih_14 _ _ _ _ _ hc_18 (lv_sub hl [2, 3, 4, 5, 0, 1] rfl) kx_15
        obtain ⟨x_30, x_31, ho, hf⟩ := sm_b2_e hf
        refine L_19 FU 0 1 x_30 x_31 ls ho (lv_sub hl [2, 3, 4, 5, 0, 1] rfl) ?_
        intro ls hl
        refine lv_iload_n hx hb dX9_stoodAt_69 rfl (lv_at hl 3 rfl) ?_
        refine lv_iload hx hb dX9_stoodAt_70 (lv_at hl 5 rfl) ?_
        refine lv_if_eq (tgt := 81) hx hb dX9_stoodAt_72 (by decide) (fun c_32 => ?_) (fun c_32 => ?_)
        · have hf := (if_pos c_32).symm.trans hf
          refine lv_iconst (v := 0) hx hb dX9_stoodAt_81 (by decide) ?_
          refine lv_ior hx hb dX9_stoodAt_82 ?_
          refine lv_istore_n (lv' := [(2, .int (x_2 ||| 0)), (0, .ref (ad 0)), (1, .int a1), (3, .int x_1), (5, .int x_30), (4, .int x_31)]) hx hb dX9_stoodAt_83 rfl hl (by decide) rfl (fun ls hl => ?_)
          refine lv_iinc (v := x_1 + 1) (lv' := [(3, .int (x_1 + 1)), (2, .int (x_2 ||| 0)), (0, .ref (ad 0)), (1, .int a1), (5, .int x_30), (4, .int x_31)]) hx hb dX9_stoodAt_84 hl (k := 3) rfl rfl (by decide) rfl (fun ls hl => ?_)
          refine lv_goto (tgt := 4) hx hb dX9_stoodAt_87 (by decide) ?_
          cases hf
          exact ih_3 _ _ _ _ _ hc_7 (lv_sub hl [2, 3, 0, 1] rfl) kx_4
        · have hf := (if_neg c_32).symm.trans hf
          refine lv_iconst (v := 1) hx hb dX9_stoodAt_75 (by decide) ?_
          refine lv_iload_n hx hb dX9_stoodAt_76 rfl (lv_at hl 2 rfl) ?_
          refine lv_ishl hx hb dX9_stoodAt_77 ?_
          refine lv_goto (tgt := 82) hx hb dX9_stoodAt_78 (by decide) ?_
          refine lv_ior hx hb dX9_stoodAt_82 ?_
          refine lv_topi (fun x_33 ex_33 => ?_)
          have hf := sm_lt_v hf ex_33
          refine lv_istore_n (lv' := [(2, .int x_33), (0, .ref (ad 0)), (1, .int a1), (3, .int x_1), (5, .int x_30), (4, .int x_31)]) hx hb dX9_stoodAt_83 rfl hl (by decide) rfl (fun ls hl => ?_)
          refine lv_iinc (v := x_1 + 1) (lv' := [(3, .int (x_1 + 1)), (2, .int x_33), (0, .ref (ad 0)), (1, .int a1), (5, .int x_30), (4, .int x_31)]) hx hb dX9_stoodAt_84 hl (k := 3) rfl rfl (by decide) rfl (fun ls hl => ?_)
          refine lv_goto (tgt := 4) hx hb dX9_stoodAt_87 (by decide) ?_
          cases hf
          exact ih_3 _ _ _ _ _ hc_7 (lv_sub hl [2, 3, 0, 1] rfl) kx_4
  obtain ⟨x_35, x_36, ho, hf⟩ := sm_b2_e hf
  refine L_8 FU 0 0 x_35 x_36 ls ho (lv_sub hl [2, 3, 0, 1] rfl) ?_
  intro ls hl
  refine lv_iload_n hx hb dX9_stoodAt_90 rfl (lv_at hl 3 rfl) ?_
  have hf := Option.some.inj hf
  rw [← hQ]
  exact W.iret (v := x_36) hx hb hr (fun t ht hW => ⟨_, rfl, hf, ht⟩) (fun _ h => by cases h) dX9_stoodAt_91
abbrev rX9_stood : Room := { frames := 3, cells := 0, slots := 0, locals := 68 }
set_option maxHeartbeats 4000000 in
theorem wX9_stood (l : Launch) (g : GG) (ad : Nat → Nat) (S : MS) (a1 : Int32) (rf : Int32) (hf : fX9_stood S a1 = some rf) : Met l yX9_stood (ws_ yX9_stood cX9_stood 2 (some .int)) rX9_stood (va_Pc [.ref (ad 0), .int a1] (fun U => PP g (WM g ad S) U.heap ∧ EV g U)) (vp_Si (fun y => y = rf)) 0 0 (fun _ => False) := by
  refine sm_st (by decide) ?_
  intro p e s m args below meth c hx hb hr hlocks hml hown hnm hts hv
  obtain ⟨hargs, hP, hE⟩ := hv
  obtain ⟨hK, hN⟩ := id hE
  have hown : s.vm.findClass RX9 = some m.cls := hown
  refine sm_en _ (Nat.le_of_ble_eq_true rfl) hargs (fun ls hl => ?_)
  have hl : lv_has ls 2 [(0, .ref (ad 0)), (1, .int a1)] := hl
  generalize hQ : MQ below _ args s _ _ _ = Q
  unfold fX9_stood at hf
  refine lv_aload_n hx hb dX9_stood_0 rfl (lv_at hl 0 rfl) ?_
  refine lv_iload_n hx hb dX9_stood_1 rfl (lv_at hl 1 rfl) ?_
  refine vp_callSi (W.runV (As := [.int a1]) (rest := []) ⟨hx, hb, hml, hown, hts⟩ (wX9_isCopied l g ad S a1 (fX9_isCopied S a1) rfl) (cwV 1 hts (lw_V q1187 q1189 qs47 q70 q1190) rfl rfl rfl (by decide +kernel) ⟨Nat.le_of_ble_eq_true rfl, Nat.le_of_ble_eq_true rfl⟩) (sm_pv hE hP (va_recv hK hP (ci := 9) (q0 := 0) rfl rfl)) rfl rfl hl.1 rfl (lv_room (Nat.le_of_ble_eq_true rfl)) dX9_stood_2 ⟨Nat.le_of_ble_eq_true rfl, Nat.le_of_ble_eq_true rfl⟩) (fun r_2 er_1 => ?_)
  have er_1 := er_1.symm
  subst er_1
  refine lv_if_eq (tgt := 16) hx hb dX9_stood_5 (by decide) (fun c_3 => ?_) (fun c_3 => ?_)
  · have hf := (if_pos c_3).symm.trans hf
    refine lv_iconst (v := (-1)) hx hb dX9_stood_16 (by decide) ?_
    have hf := Option.some.inj hf
    rw [← hQ]
    exact W.iret (v := (-1)) hx hb hr (fun t ht hW => ⟨_, rfl, hf, ht⟩) (fun _ h => by cases h) dX9_stood_17
  · have hf := (if_neg c_3).symm.trans hf
    refine lv_aload_n hx hb dX9_stood_8 rfl (lv_at hl 0 rfl) ?_
    refine lv_iload_n hx hb dX9_stood_9 rfl (lv_at hl 1 rfl) ?_
    obtain ⟨r_4, h_5, hf⟩ := sm_b1_e hf
    refine vp_callSi (W.runV (As := [.int a1]) (rest := []) ⟨hx, hb, hml, hown, hts⟩ (wX9_stoodAt l g ad S a1 r_4 h_5) (cwV 1 hts (lw_V q1191 q1193 qs48 q70 q1194) rfl rfl rfl (by decide +kernel) ⟨Nat.le_of_ble_eq_true rfl, Nat.le_of_ble_eq_true rfl⟩) (sm_pv hE hP (va_recv hK hP (ci := 9) (q0 := 0) rfl rfl)) rfl rfl hl.1 rfl (lv_room (Nat.le_of_ble_eq_true rfl)) dX9_stood_10 ⟨Nat.le_of_ble_eq_true rfl, Nat.le_of_ble_eq_true rfl⟩) (fun r_7 er_6 => ?_)
    have er_6 := er_6.symm
    subst er_6
    refine lv_goto (tgt := 17) hx hb dX9_stood_13 (by decide) ?_
    have hf := Option.some.inj hf
    rw [← hQ]
    exact W.iret (v := r_4) hx hb hr (fun t ht hW => ⟨_, rfl, hf, ht⟩) (fun _ h => by cases h) dX9_stood_17
abbrev rX9_sureOf : Room := { frames := 1, cells := 0, slots := 0, locals := 21 }
set_option maxHeartbeats 4000000 in
theorem wX9_sureOf (l : Launch) (g : GG) (ad : Nat → Nat) (S : MS) (a1 : Int32) (rf : Int32) (hf : fX9_sureOf S a1 = some rf) : Met l yX9_sureOf (ws_ yX9_sureOf cX9_sureOf 3 (some .int)) rX9_sureOf (va_Pc [.ref (ad 0), .int a1] (fun U => PP g (WM g ad S) U.heap ∧ EV g U)) (vp_Si (fun y => y = rf)) 0 0 (fun _ => False) := by
  refine sm_st (by decide) ?_
  intro p e s m args below meth c hx hb hr hlocks hml hown hnm hts hv
  obtain ⟨hargs, hP, hE⟩ := hv
  obtain ⟨hK, hN⟩ := id hE
  have hown : s.vm.findClass RX9 = some m.cls := hown
  refine sm_en _ (Nat.le_of_ble_eq_true rfl) hargs (fun ls hl => ?_)
  have hl : lv_has ls 3 [(0, .ref (ad 0)), (1, .int a1)] := hl
  generalize hQ : MQ below _ args s _ _ _ = Q
  unfold fX9_sureOf at hf
  refine lv_iconst (v := 0) hx hb dX9_sureOf_0 (by decide) ?_
  refine lv_istore_n (lv' := [(2, .int 0), (0, .ref (ad 0)), (1, .int a1)]) hx hb dX9_sureOf_1 rfl hl (by decide) rfl (fun ls hl => ?_)
  have L_7 : ∀ (n : Nat) (x_1 : Int32) (o_8 : Int32) (ls : Array Slot), sm_lp (fun q => fX9_sureOf_2 a1 q) n x_1 = some o_8 → lv_has ls 3 [(0, .ref (ad 0)), (1, .int a1), (2, .int x_1)] → (∀ (ls : Array Slot), lv_has ls 3 [(0, .ref (ad 0)), (1, .int a1), (2, .int o_8)] → W p l e rX9_sureOf s m args below meth c s.heap [] 0 0 Q (F0 m 16 ls [])) → W p l e rX9_sureOf s m args below meth c s.heap [] 0 0 Q (F0 m 2 ls []) := by
    intro n
    induction n with
    | zero =>
      intro _ _ _ hf
      cases hf
    | succ n ih_2 =>
      intro x_1 o_8 ls hf hl kx_3
      obtain ⟨q, hf, hc_6⟩ := sm_bnd hf
      have hf : fX9_sureOf_2 a1 x_1 = some q := hf
      unfold fX9_sureOf_2 at hf
      refine lv_iload_n hx hb dX9_sureOf_2 rfl (lv_at hl 1 rfl) ?_
      refine lv_iload_n hx hb dX9_sureOf_3 rfl (lv_at hl 2 rfl) ?_
      refine vp_callSi (W.runS (As := [.int a1, .int x_1]) (rest := []) ⟨hx, hb, hml, hown, hts⟩ (wX9_has l a1 x_1 (fX9_has a1 x_1) rfl) (va_cwS 2 hts (lw_S q1006 q1007 q70 q1008) rfl rfl rfl (by decide +kernel) ⟨Nat.le_of_ble_eq_true rfl, Nat.le_of_ble_eq_true rfl⟩) (sm_ps) rfl rfl hl.1 rfl (lv_room (Nat.le_of_ble_eq_true rfl)) dX9_sureOf_4 ⟨Nat.le_of_ble_eq_true rfl, Nat.le_of_ble_eq_true rfl⟩) (fun r_10 er_9 => ?_)
      have er_9 := er_9.symm
      subst er_9
      refine lv_if_ne (tgt := 16) hx hb dX9_sureOf_7 (by decide) (fun c_11 => ?_) (fun c_11 => ?_)
      · have hf := (if_neg c_11).symm.trans hf
        cases hf
        have hc_6 : some x_1 = some o_8 := hc_6
        cases hc_6
        exact kx_3 _ (lv_sub hl [0, 1, 2] rfl)
      · have hf := (if_pos c_11).symm.trans hf
        refine lv_iinc (v := x_1 + 1) (lv' := [(2, .int (x_1 + 1)), (0, .ref (ad 0)), (1, .int a1)]) hx hb dX9_sureOf_10 hl (k := 2) rfl rfl (by decide) rfl (fun ls hl => ?_)
        refine lv_goto (tgt := 2) hx hb dX9_sureOf_13 (by decide) ?_
        cases hf
        exact ih_2 _ _ _ hc_6 (lv_sub hl [1, 2, 0] rfl) kx_3
  obtain ⟨x_13, ho, hf⟩ := sm_b1_e hf
  refine L_7 FU 0 x_13 ls ho (lv_sub hl [1, 2, 0] rfl) ?_
  intro ls hl
  refine lv_iload_n hx hb dX9_sureOf_16 rfl (lv_at hl 2 rfl) ?_
  have hf := Option.some.inj hf
  rw [← hQ]
  exact W.iret (v := x_13) hx hb hr (fun t ht hW => ⟨_, rfl, hf, ht⟩) (fun _ h => by cases h) dX9_sureOf_17
abbrev rX9_tears : Room := { frames := 1, cells := 0, slots := 0, locals := 21 }
set_option maxHeartbeats 4000000 in
theorem wX9_tears (l : Launch) (g : GG) (ad : Nat → Nat) (S : MS) (Sf : MS) (rf : Int32) (hf : fX9_tears S = some (Sf, rf)) : Met l yX9_tears (ws_ yX9_tears cX9_tears 3 (some .int)) rX9_tears (va_Pc [.ref (ad 0)] (fun U => PP g (WM g ad S) U.heap ∧ EV g U ∧ va_D (AM ad) (WM g ad S))) (va_Qi (fun y (_ : Unit) => y = rf) (fun _ t => PP g (WM g ad Sf) t.heap ∧ va_D (AM ad) (WM g ad Sf)) (AM ad)) 0 0 (AM ad) := by
  refine sm_st (by decide) ?_
  intro p e s m args below meth c hx hb hr hlocks hml hown hnm hts hv
  obtain ⟨hargs, hP, hE, hD⟩ := hv
  obtain ⟨hK, hN⟩ := id hE
  have hS : va_S (AM ad) s.heap s.heap [] := va_S.rf
  have hown : s.vm.findClass RX9 = some m.cls := hown
  refine sm_en _ (Nat.le_of_ble_eq_true rfl) hargs (fun ls hl => ?_)
  have hl : lv_has ls 3 [(0, .ref (ad 0))] := hl
  generalize hQ : MQ below _ args s _ _ _ = Q
  unfold fX9_tears at hf
  refine lv_aload_n hx hb dX9_tears_0 rfl (lv_at hl 0 rfl) ?_
  obtain ⟨S_1, h_2, hf⟩ := sm_b1_e hf
  refine va_callv (va_runV (As := []) (rest := []) ⟨hx, hb, hml, hown, hts⟩ (wX9_remembers l g ad S  S_1 h_2) (cwV 0 hts (lw_V q1069 q1071 qs37 q70 q1072) rfl rfl rfl (by decide +kernel) ⟨Nat.le_of_ble_eq_true rfl, Nat.le_of_ble_eq_true rfl⟩) (sm_pe hE hP hD (va_recv hK hP (ci := 9) (q0 := 0) rfl rfl)) rfl rfl hl.1 rfl (lv_room (Nat.le_of_ble_eq_true rfl)) dX9_tears_1 ⟨Nat.le_of_ble_eq_true rfl, Nat.le_of_ble_eq_true rfl⟩) hS (fun _ _ h => h) (fun _ h => h) (fun u t H locs ht hvm er_3 hB hz hk hS => ?_)
  obtain ⟨hP, hD⟩ := hB
  rw [ht] at hP
  refine lv_aload_n hx hb dX9_tears_4 rfl (lv_at hl 0 rfl) ?_
  refine va_get (D := (g.1, g.2.1)) (ci := 9) (v := .ref (ad 7)) (C := RX9) (T := TX9) (N := 39) hx hb hts in_X9 hown hK hP 0 rfl rfl 7 (by decide) (hts _ q863) (fun _ h9 => h9) rfl dX9_tears_5 ?_
  refine lv_bipush (v := 20) hx hb dX9_tears_8 (by decide) ?_
  refine va_iald hx hb hK hP 3 0 rfl rfl (sm_in rfl) dX9_tears_10 ?_
  refine lv_istore_n (lv' := [(1, .int (S_1.2.1 7 20)), (0, .ref (ad 0))]) hx hb dX9_tears_11 rfl hl (by decide) rfl (fun ls hl => ?_)
  refine lv_iconst (v := 0) hx hb dX9_tears_12 (by decide) ?_
  refine lv_istore_n (lv' := [(2, .int 0), (1, .int (S_1.2.1 7 20)), (0, .ref (ad 0))]) hx hb dX9_tears_13 rfl hl (by decide) rfl (fun ls hl => ?_)
  have L_12 : ∀ (n : Nat) (x_5 : Int32) (S_6 : MS) (o_13 : Int32) (o_14 : MS) (H : Heap) (locs : List Loc) (ls : Array Slot), sm_lp (fun q => fX9_tears_14 q.1 q.2) n (x_5, S_6) = some (o_13, o_14) → PP g (WM g ad S_6) H → va_D (AM ad) (WM g ad S_6) → va_S (AM ad) s.heap H locs → lv_has ls 3 [(1, .int (S_1.2.1 7 20)), (0, .ref (ad 0)), (2, .int x_5)] → (∀ (H : Heap) (locs : List Loc) (ls : Array Slot), PP g (WM g ad o_14) H → va_D (AM ad) (WM g ad o_14) → va_S (AM ad) s.heap H locs → lv_has ls 3 [(1, .int (S_1.2.1 7 20)), (0, .ref (ad 0)), (2, .int o_13)] → W p l e rX9_tears s m args below meth c H locs 0 0 Q (F0 m 35 ls [])) → W p l e rX9_tears s m args below meth c H locs 0 0 Q (F0 m 14 ls []) := by
    intro n
    induction n with
    | zero =>
      intro _ _ _ _ _ _ _ hf
      cases hf
    | succ n ih_7 =>
      intro x_5 S_6 o_13 o_14 H locs ls hf hP hD hS hl kx_8
      obtain ⟨q, hf, hc_11⟩ := sm_bnd hf
      have hf : fX9_tears_14 x_5 S_6 = some q := hf
      unfold fX9_tears_14 at hf
      refine lv_iload_n hx hb dX9_tears_14 rfl (lv_at hl 2 rfl) ?_
      refine lv_iconst (v := 5) hx hb dX9_tears_15 (by decide) ?_
      refine lv_icmp_ge (tgt := 35) hx hb dX9_tears_16 (by decide) (fun c_15 => ?_) (fun c_15 => ?_)
      · have hf := (if_pos c_15).symm.trans hf
        cases hf
        have hc_11 : some (x_5, S_6) = some (o_13, o_14) := hc_11
        cases hc_11
        exact kx_8 _ _ _ hP hD hS (lv_sub hl [0, 1, 2] rfl)
      · have hf := (if_neg c_15).symm.trans hf
        refine lv_aload_n hx hb dX9_tears_19 rfl (lv_at hl 1 rfl) ?_
        refine va_get (D := (g.1, g.2.1)) (ci := 9) (v := .ref (ad 7)) (C := RX9) (T := TX9) (N := 39) hx hb hts in_X9 hown hK hP 0 rfl rfl 7 (by decide) (hts _ q863) (fun _ h9 => h9) rfl dX9_tears_20 ?_
        refine lv_bipush (v := 21) hx hb dX9_tears_23 (by decide) ?_
        refine lv_iload_n hx hb dX9_tears_25 rfl (lv_at hl 2 rfl) ?_
        refine lv_iadd hx hb dX9_tears_26 ?_
        refine lv_iconst (v := 0) hx hb dX9_tears_27 (by decide) ?_
        obtain ⟨hg, hf⟩ := sm_gd_e hf
        refine va_iast (i := 21 + x_5) (x := 0) hx hb hK hP hD hS 3 0 rfl rfl (sm_in hg) dX9_tears_28 (fun H locs hP hD hS => ?_)
        obtain ⟨S_16, eS_16, hf⟩ := sm_lt_e hf
        have hP : PP g (WM g ad S_16) H := by rw [eS_16]; exact pmr7 hP
        have hD : va_D (AM ad) (WM g ad S_16) := by rw [eS_16]; exact dmr7 hD
        refine lv_iinc (v := x_5 + 1) (lv' := [(2, .int (x_5 + 1)), (1, .int (S_1.2.1 7 20)), (0, .ref (ad 0))]) hx hb dX9_tears_29 hl (k := 2) rfl rfl (by decide) rfl (fun ls hl => ?_)
        refine lv_goto (tgt := 14) hx hb dX9_tears_32 (by decide) ?_
        cases hf
        exact ih_7 _ _ _ _ _ _ _ hc_11 hP hD hS (lv_sub hl [1, 2, 0] rfl) kx_8
  obtain ⟨x_18, S_19, ho, hf⟩ := sm_b2_e hf
  refine L_12 FU 0 S_1 x_18 S_19 H locs ls ho hP hD hS (lv_sub hl [1, 2, 0] rfl) ?_
  intro H locs ls hP hD hS hl
  refine lv_aload_n hx hb dX9_tears_35 rfl (lv_at hl 1 rfl) ?_
  refine va_get (D := (g.1, g.2.1)) (ci := 9) (v := .ref (ad 7)) (C := RX9) (T := TX9) (N := 39) hx hb hts in_X9 hown hK hP 0 rfl rfl 7 (by decide) (hts _ q863) (fun _ h9 => h9) rfl dX9_tears_36 ?_
  refine lv_bipush (v := 20) hx hb dX9_tears_39 (by decide) ?_
  refine lv_iconst (v := 0) hx hb dX9_tears_41 (by decide) ?_
  refine va_iast (i := 20) (x := 0) hx hb hK hP hD hS 3 0 rfl rfl (sm_in rfl) dX9_tears_42 (fun H locs hP hD hS => ?_)
  obtain ⟨S_20, eS_20, hf⟩ := sm_lt_e hf
  have hP : PP g (WM g ad S_20) H := by rw [eS_20]; exact pmr7 hP
  have hD : va_D (AM ad) (WM g ad S_20) := by rw [eS_20]; exact dmr7 hD
  refine lv_iload_n hx hb dX9_tears_43 rfl (lv_at hl 0 rfl) ?_
  have hf := Option.some.inj hf
  rw [← hQ]
  have hf := Prod.mk.inj hf
  exact W.iret (v := S_1.2.1 7 20) hx hb hr (fun t ht hW => ⟨⟨_, (), rfl, hf.2, by rw [ht, ← hf.1]; exact hP, by rw [← hf.1]; exact hD⟩, hS.F ht⟩) hS.2.2 dX9_tears_44
abbrev rX9_trace : Room := { frames := 0, cells := 0, slots := 0, locals := 0 }
set_option maxHeartbeats 4000000 in
theorem wX9_trace (l : Launch) (g : GG) (ad : Nat → Nat) (S : MS) (rf : Int64) (hf : fX9_trace S = rf) : Met l yX9_trace (ws_ yX9_trace cX9_trace 1 (some .long)) rX9_trace (va_Pc [.ref (ad 0)] (fun U => PP g (WM g ad S) U.heap ∧ EV g U)) (vp_Sl (fun y => y = rf)) 0 0 (fun _ => False) := by
  refine sm_st (by decide) ?_
  intro p e s m args below meth c hx hb hr hlocks hml hown hnm hts hv
  obtain ⟨hargs, hP, hE⟩ := hv
  obtain ⟨hK, hN⟩ := id hE
  have hown : s.vm.findClass RX9 = some m.cls := hown
  refine sm_en _ (Nat.le_of_ble_eq_true rfl) hargs (fun ls hl => ?_)
  have hl : lv_has ls 1 [(0, .ref (ad 0))] := hl
  generalize hQ : MQ below _ args s _ _ _ = Q
  unfold fX9_trace at hf
  refine lv_aload_n hx hb dX9_trace_0 rfl (lv_at hl 0 rfl) ?_
  refine va_get (D := (g.1, g.2.1)) (ci := 9) (v := .long S.2.2.1) (C := RX9) (T := TX9) (N := 39) hx hb hts in_X9 hown hK hP 0 rfl rfl 16 (by decide) (hts _ q872) (fun _ h9 => h9) rfl dX9_trace_1 ?_
  rw [← hQ]
  exact W.lret (v := S.2.2.1) hx hb hr (fun t ht hW => ⟨_, rfl, hf, ht⟩) (fun _ h => by cases h) dX9_trace_4
abbrev rX9_traveller : Room := { frames := 2, cells := 0, slots := 0, locals := 43 }
set_option maxHeartbeats 4000000 in
theorem wX9_traveller (l : Launch) (g : GG) (ad : Nat → Nat) (S : MS) (a1 : Int32) (a2 : Int32) (rf : Int32) (hf : fX9_traveller S a1 a2 = some rf) : Met l yX9_traveller (ws_ yX9_traveller cX9_traveller 3 (some .int)) rX9_traveller (va_Pc [.ref (ad 0), .int a1, .int a2] (fun U => PP g (WM g ad S) U.heap ∧ EV g U)) (vp_Si (fun y => y = rf)) 0 0 (fun _ => False) := by
  refine sm_st (by decide) ?_
  intro p e s m args below meth c hx hb hr hlocks hml hown hnm hts hv
  obtain ⟨hargs, hP, hE⟩ := hv
  obtain ⟨hK, hN⟩ := id hE
  have hown : s.vm.findClass RX9 = some m.cls := hown
  refine sm_en _ (Nat.le_of_ble_eq_true rfl) hargs (fun ls hl => ?_)
  have hl : lv_has ls 3 [(0, .ref (ad 0)), (1, .int a1), (2, .int a2)] := hl
  generalize hQ : MQ below _ args s _ _ _ = Q
  unfold fX9_traveller at hf
  refine lv_aload_n hx hb dX9_traveller_0 rfl (lv_at hl 0 rfl) ?_
  refine lv_iload_n hx hb dX9_traveller_1 rfl (lv_at hl 1 rfl) ?_
  refine vp_callSi (W.runV (As := [.int a1]) (rest := []) ⟨hx, hb, hml, hown, hts⟩ (wX9_isTraveller l g ad S a1 (fX9_isTraveller S a1) rfl) (cwV 1 hts (lw_V q1029 q1031 qs30 q70 q1032) rfl rfl rfl (by decide +kernel) ⟨Nat.le_of_ble_eq_true rfl, Nat.le_of_ble_eq_true rfl⟩) (sm_pv hE hP (va_recv hK hP (ci := 9) (q0 := 0) rfl rfl)) rfl rfl hl.1 rfl (lv_room (Nat.le_of_ble_eq_true rfl)) dX9_traveller_2 ⟨Nat.le_of_ble_eq_true rfl, Nat.le_of_ble_eq_true rfl⟩) (fun r_2 er_1 => ?_)
  have er_1 := er_1.symm
  subst er_1
  refine lv_if_eq (tgt := 17) hx hb dX9_traveller_5 (by decide) (fun c_3 => ?_) (fun c_3 => ?_)
  · have hf := (if_pos c_3).symm.trans hf
    refine lv_iconst (v := (-1)) hx hb dX9_traveller_17 (by decide) ?_
    have hf := Option.some.inj hf
    rw [← hQ]
    exact W.iret (v := (-1)) hx hb hr (fun t ht hW => ⟨_, rfl, hf, ht⟩) (fun _ h => by cases h) dX9_traveller_18
  · have hf := (if_neg c_3).symm.trans hf
    refine lv_iload_n hx hb dX9_traveller_8 rfl (lv_at hl 2 rfl) ?_
    refine lv_iconst (v := 0) hx hb dX9_traveller_9 (by decide) ?_
    refine lv_iconst (v := 4) hx hb dX9_traveller_10 (by decide) ?_
    refine vp_callSi (W.runS (As := [.int a2, .int 0, .int 4]) (rest := []) ⟨hx, hb, hml, hown, hts⟩ (wX9_in l a2 0 4 (fX9_in a2 0 4) rfl) (va_cwS 3 hts (lw_S q979 q980 q70 q981) rfl rfl rfl (by decide +kernel) ⟨Nat.le_of_ble_eq_true rfl, Nat.le_of_ble_eq_true rfl⟩) (sm_ps) rfl rfl hl.1 rfl (lv_room (Nat.le_of_ble_eq_true rfl)) dX9_traveller_11 ⟨Nat.le_of_ble_eq_true rfl, Nat.le_of_ble_eq_true rfl⟩) (fun r_5 er_4 => ?_)
    have er_4 := er_4.symm
    subst er_4
    refine lv_if_ne (tgt := 19) hx hb dX9_traveller_14 (by decide) (fun c_6 => ?_) (fun c_6 => ?_)
    · have hf := (if_neg c_6).symm.trans hf
      refine lv_iload_n hx hb dX9_traveller_19 rfl (lv_at hl 2 rfl) ?_
      refine lv_iconst (v := 2) hx hb dX9_traveller_20 (by decide) ?_
      refine lv_icmp_ge (tgt := 37) hx hb dX9_traveller_21 (by decide) (fun c_7 => ?_) (fun c_7 => ?_)
      · have hf := (if_pos c_7).symm.trans hf
        refine lv_iload_n hx hb dX9_traveller_37 rfl (lv_at hl 2 rfl) ?_
        refine lv_iconst (v := 2) hx hb dX9_traveller_38 (by decide) ?_
        refine lv_icmp_ne (tgt := 53) hx hb dX9_traveller_39 (by decide) (fun c_8 => ?_) (fun c_8 => ?_)
        · have hf := (if_neg c_8).symm.trans hf
          refine lv_iload_n hx hb dX9_traveller_53 rfl (lv_at hl 2 rfl) ?_
          refine lv_iconst (v := 3) hx hb dX9_traveller_54 (by decide) ?_
          refine lv_icmp_ne (tgt := 70) hx hb dX9_traveller_55 (by decide) (fun c_9 => ?_) (fun c_9 => ?_)
          · have hf := (if_neg c_9).symm.trans hf
            refine lv_aload_n hx hb dX9_traveller_70 rfl (lv_at hl 0 rfl) ?_
            refine va_get (D := (g.1, g.2.1)) (ci := 9) (v := .ref (ad 7)) (C := RX9) (T := TX9) (N := 39) hx hb hts in_X9 hown hK hP 0 rfl rfl 7 (by decide) (hts _ q863) (fun _ h9 => h9) rfl dX9_traveller_71 ?_
            refine lv_bipush (v := 14) hx hb dX9_traveller_74 (by decide) ?_
            refine lv_iload_n hx hb dX9_traveller_76 rfl (lv_at hl 1 rfl) ?_
            refine lv_iadd hx hb dX9_traveller_77 ?_
            obtain ⟨hg, hf⟩ := sm_gd_e hf
            refine va_iald hx hb hK hP 3 0 rfl rfl (sm_in hg) dX9_traveller_78 ?_
            have hf := Option.some.inj hf
            rw [← hQ]
            exact W.iret (v := S.2.1 7 (14 + a1).toNatClampNeg) hx hb hr (fun t ht hW => ⟨_, rfl, hf, ht⟩) (fun _ h => by cases h) dX9_traveller_79
          · have hf := (if_pos c_9).symm.trans hf
            refine lv_aload_n hx hb dX9_traveller_58 rfl (lv_at hl 0 rfl) ?_
            refine va_get (D := (g.1, g.2.1)) (ci := 9) (v := .ref (ad 7)) (C := RX9) (T := TX9) (N := 39) hx hb hts in_X9 hown hK hP 0 rfl rfl 7 (by decide) (hts _ q863) (fun _ h9 => h9) rfl dX9_traveller_59 ?_
            refine lv_bipush (v := 8) hx hb dX9_traveller_62 (by decide) ?_
            refine lv_iload_n hx hb dX9_traveller_64 rfl (lv_at hl 1 rfl) ?_
            refine lv_iadd hx hb dX9_traveller_65 ?_
            obtain ⟨hg, hf⟩ := sm_gd_e hf
            refine va_iald hx hb hK hP 3 0 rfl rfl (sm_in hg) dX9_traveller_66 ?_
            refine lv_goto (tgt := 79) hx hb dX9_traveller_67 (by decide) ?_
            have hf := Option.some.inj hf
            rw [← hQ]
            exact W.iret (v := S.2.1 7 (8 + a1).toNatClampNeg) hx hb hr (fun t ht hW => ⟨_, rfl, hf, ht⟩) (fun _ h => by cases h) dX9_traveller_79
        · have hf := (if_pos c_8).symm.trans hf
          refine lv_aload_n hx hb dX9_traveller_42 rfl (lv_at hl 0 rfl) ?_
          refine va_get (D := (g.1, g.2.1)) (ci := 9) (v := .ref (ad 7)) (C := RX9) (T := TX9) (N := 39) hx hb hts in_X9 hown hK hP 0 rfl rfl 7 (by decide) (hts _ q863) (fun _ h9 => h9) rfl dX9_traveller_43 ?_
          refine lv_iconst (v := 2) hx hb dX9_traveller_46 (by decide) ?_
          refine lv_iload_n hx hb dX9_traveller_47 rfl (lv_at hl 1 rfl) ?_
          refine lv_iadd hx hb dX9_traveller_48 ?_
          obtain ⟨hg, hf⟩ := sm_gd_e hf
          refine va_iald hx hb hK hP 3 0 rfl rfl (sm_in hg) dX9_traveller_49 ?_
          refine lv_goto (tgt := 79) hx hb dX9_traveller_50 (by decide) ?_
          have hf := Option.some.inj hf
          rw [← hQ]
          exact W.iret (v := S.2.1 7 (2 + a1).toNatClampNeg) hx hb hr (fun t ht hW => ⟨_, rfl, hf, ht⟩) (fun _ h => by cases h) dX9_traveller_79
      · have hf := (if_neg c_7).symm.trans hf
        refine lv_aload_n hx hb dX9_traveller_24 rfl (lv_at hl 0 rfl) ?_
        refine va_get (D := (g.1, g.2.1)) (ci := 9) (v := .ref (ad 4)) (C := RX9) (T := TX9) (N := 39) hx hb hts in_X9 hown hK hP 0 rfl rfl 4 (by decide) (hts _ q860) (fun _ h9 => h9) rfl dX9_traveller_25 ?_
        refine lv_iconst (v := 2) hx hb dX9_traveller_28 (by decide) ?_
        refine lv_iload_n hx hb dX9_traveller_29 rfl (lv_at hl 1 rfl) ?_
        refine lv_imul hx hb dX9_traveller_30 ?_
        refine lv_iload_n hx hb dX9_traveller_31 rfl (lv_at hl 2 rfl) ?_
        refine lv_iadd hx hb dX9_traveller_32 ?_
        obtain ⟨hg, hf⟩ := sm_gd_e hf
        refine va_iald hx hb hK hP 1 0 rfl rfl (sm_in hg) dX9_traveller_33 ?_
        refine lv_goto (tgt := 79) hx hb dX9_traveller_34 (by decide) ?_
        have hf := Option.some.inj hf
        rw [← hQ]
        exact W.iret (v := S.2.1 4 ((2 * a1) + a2).toNatClampNeg) hx hb hr (fun t ht hW => ⟨_, rfl, hf, ht⟩) (fun _ h => by cases h) dX9_traveller_79
    · have hf := (if_pos c_6).symm.trans hf
      refine lv_iconst (v := (-1)) hx hb dX9_traveller_17 (by decide) ?_
      have hf := Option.some.inj hf
      rw [← hQ]
      exact W.iret (v := (-1)) hx hb hr (fun t ht hW => ⟨_, rfl, hf, ht⟩) (fun _ h => by cases h) dX9_traveller_18
