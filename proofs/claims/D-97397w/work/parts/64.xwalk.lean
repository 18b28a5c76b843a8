/-! SmokedLetters, walked: printed by gen/xmain.py -/
set_option maxRecDepth 100000
abbrev rX0_boat : Room := { frames := 1, cells := 0, slots := 0, locals := 22 }
set_option maxHeartbeats 4000000 in
theorem wX0_boat (l : Launch) (g : GG) (ad : Nat → Nat) (S : XS) (a1 : Int32) (a2 : Int32) (rf : Int32) (hf : fX0_boat S a1 a2 = some rf) : Met l yX0_boat (ws_ yX0_boat cX0_boat 8 (some .int)) rX0_boat (va_Pc [.ref (ad 0), .int a1, .int a2] (fun Ux => PP g (WX g ad S) Ux.heap ∧ EV g Ux)) (vp_Si (fun y => y = rf)) 0 0 (fun _ => False) := by
  refine sm_st (by decide) ?_
  intro p e s m args below meth c hx hb hr hlocks hml hown hnm hts hv
  obtain ⟨hargs, hP, hE⟩ := hv
  obtain ⟨hK, hN⟩ := id hE
  have hown : s.vm.findClass RX0 = some m.cls := hown
  refine sm_en _ (Nat.le_of_ble_eq_true rfl) hargs (fun ls hl => ?_)
  have hl : lv_has ls 8 [(0, .ref (ad 0)), (1, .int a1), (2, .int a2)] := hl
  generalize hQ : MQ below _ args s _ _ _ = Q
  unfold fX0_boat at hf
  refine lv_iload_n hx hb dX0_boat_0 rfl (lv_at hl 1 rfl) ?_
  refine lv_iconst (v := 1) hx hb dX0_boat_1 (by decide) ?_
  refine lv_bipush (v := 60) hx hb dX0_boat_2 (by decide) ?_
  refine vp_callSi (W.runS (As := [.int a1, .int 1, .int 60]) (rest := []) ⟨hx, hb, hml, hown, hts⟩ (wX0_in l a1 1 60 (fX0_in a1 1 60) rfl) (va_cwS 3 hts (lw_S q343 q344 q60 q345) rfl rfl rfl (by decide +kernel) ⟨Nat.le_of_ble_eq_true rfl, Nat.le_of_ble_eq_true rfl⟩) (sm_ps) rfl rfl hl.1 rfl (lv_room (Nat.le_of_ble_eq_true rfl)) dX0_boat_4 ⟨Nat.le_of_ble_eq_true rfl, Nat.le_of_ble_eq_true rfl⟩) (fun r_2 er_1 => ?_)
  have er_1 := er_1.symm
  subst er_1
  refine lv_if_eq (tgt := 19) hx hb dX0_boat_7 (by decide) (fun c_3 => ?_) (fun c_3 => ?_)
  · have hf := (if_pos c_3).symm.trans hf
    refine lv_iconst (v := (-1)) hx hb dX0_boat_19 (by decide) ?_
    have hf := Option.some.inj hf
    rw [← hQ]
    exact W.iret (v := (-1)) hx hb hr (fun t ht hW => ⟨_, rfl, hf, ht⟩) (fun _ h => by cases h) dX0_boat_20
  · have hf := (if_neg c_3).symm.trans hf
    refine lv_iload_n hx hb dX0_boat_10 rfl (lv_at hl 2 rfl) ?_
    refine lv_iconst (v := 0) hx hb dX0_boat_11 (by decide) ?_
    refine lv_iconst (v := 1) hx hb dX0_boat_12 (by decide) ?_
    refine vp_callSi (W.runS (As := [.int a2, .int 0, .int 1]) (rest := []) ⟨hx, hb, hml, hown, hts⟩ (wX0_in l a2 0 1 (fX0_in a2 0 1) rfl) (va_cwS 3 hts (lw_S q343 q344 q60 q345) rfl rfl rfl (by decide +kernel) ⟨Nat.le_of_ble_eq_true rfl, Nat.le_of_ble_eq_true rfl⟩) (sm_ps) rfl rfl hl.1 rfl (lv_room (Nat.le_of_ble_eq_true rfl)) dX0_boat_13 ⟨Nat.le_of_ble_eq_true rfl, Nat.le_of_ble_eq_true rfl⟩) (fun r_5 er_4 => ?_)
    have er_4 := er_4.symm
    subst er_4
    refine lv_if_ne (tgt := 21) hx hb dX0_boat_16 (by decide) (fun c_6 => ?_) (fun c_6 => ?_)
    · have hf := (if_neg c_6).symm.trans hf
      refine lv_bipush (v := (-9)) hx hb dX0_boat_21 (by decide) ?_
      refine lv_istore_n (lv' := [(3, .int (-9)), (0, .ref (ad 0)), (1, .int a1), (2, .int a2)]) hx hb dX0_boat_23 rfl hl (by decide) rfl (fun ls hl => ?_)
      refine lv_iconst (v := 0) hx hb dX0_boat_24 (by decide) ?_
      refine lv_istore (lv' := [(4, .int 0), (3, .int (-9)), (0, .ref (ad 0)), (1, .int a1), (2, .int a2)]) hx hb dX0_boat_25 hl (by decide) rfl (fun ls hl => ?_)
      refine lv_iconst (v := 0) hx hb dX0_boat_27 (by decide) ?_
      refine lv_istore (lv' := [(5, .int 0), (4, .int 0), (3, .int (-9)), (0, .ref (ad 0)), (1, .int a1), (2, .int a2)]) hx hb dX0_boat_28 hl (by decide) rfl (fun ls hl => ?_)
      have L_15 : ∀ (n : Nat) (x_7 : Int32) (x_8 : Int32) (x_9 : Int32) (o_16 : Int32) (o_17 : Int32) (o_18 : Int32) (ls : Array Slot), sm_lp (fun q => fX0_boat_30 S a1 q.1 q.2.1 q.2.2) n (x_7, x_8, x_9) = some (o_16, o_17, o_18) → lv_has ls 8 [(0, .ref (ad 0)), (1, .int a1), (2, .int a2), (5, .int x_7), (4, .int x_8), (3, .int x_9)] → (∀ (ls : Array Slot), lv_has ls 8 [(0, .ref (ad 0)), (1, .int a1), (2, .int a2), (5, .int o_16), (4, .int o_17), (3, .int o_18)] → W p l e rX0_boat s m args below meth c s.heap [] 0 0 Q (F0 m 158 ls [])) → W p l e rX0_boat s m args below meth c s.heap [] 0 0 Q (F0 m 30 ls []) := by
        intro n
        induction n with
        | zero =>
          intro _ _ _ _ _ _ _ hf
          cases hf
        | succ n ih_10 =>
          intro x_7 x_8 x_9 o_16 o_17 o_18 ls hf hl kx_11
          obtain ⟨q, hf, hc_14⟩ := sm_bnd hf
          have hf : fX0_boat_30 S a1 x_7 x_8 x_9 = some q := hf
          unfold fX0_boat_30 at hf
          refine lv_iload hx hb dX0_boat_30 (lv_at hl 3 rfl) ?_
          refine lv_iload_n hx hb dX0_boat_32 rfl (lv_at hl 1 rfl) ?_
          refine lv_icmp_gt (tgt := 158) hx hb dX0_boat_33 (by decide) (fun c_19 => ?_) (fun c_19 => ?_)
          · have hf := (if_pos c_19).symm.trans hf
            cases hf
            have hc_14 : some (x_7, x_8, x_9) = some (o_16, o_17, o_18) := hc_14
            cases hc_14
            exact kx_11 _ (lv_sub hl [0, 1, 2, 3, 4, 5] rfl)
          · have hf := (if_neg c_19).symm.trans hf
            refine lv_iconst (v := 0) hx hb dX0_boat_36 (by decide) ?_
            refine lv_istore (lv' := [(6, .int 0), (0, .ref (ad 0)), (1, .int a1), (2, .int a2), (5, .int x_7), (4, .int x_8), (3, .int x_9)]) hx hb dX0_boat_37 hl (by decide) rfl (fun ls hl => ?_)
            refine lv_iconst (v := 0) hx hb dX0_boat_39 (by decide) ?_
            refine lv_istore (lv' := [(7, .int 0), (6, .int 0), (0, .ref (ad 0)), (1, .int a1), (2, .int a2), (5, .int x_7), (4, .int x_8), (3, .int x_9)]) hx hb dX0_boat_40 hl (by decide) rfl (fun ls hl => ?_)
            have L_27 : ∀ (n : Nat) (x_20 : Int32) (x_21 : Int32) (o_28 : Int32) (o_29 : Int32) (ls : Array Slot), sm_lp (fun q => fX0_boat_42 S x_7 q.1 q.2) n (x_20, x_21) = some (o_28, o_29) → lv_has ls 8 [(0, .ref (ad 0)), (1, .int a1), (2, .int a2), (5, .int x_7), (4, .int x_8), (3, .int x_9), (7, .int x_20), (6, .int x_21)] → (∀ (ls : Array Slot), lv_has ls 8 [(0, .ref (ad 0)), (1, .int a1), (2, .int a2), (5, .int x_7), (4, .int x_8), (3, .int x_9), (7, .int o_28), (6, .int o_29)] → W p l e rX0_boat s m args below meth c s.heap [] 0 0 Q (F0 m 130 ls [])) → W p l e rX0_boat s m args below meth c s.heap [] 0 0 Q (F0 m 42 ls []) := by
              intro n
              induction n with
              | zero =>
                intro _ _ _ _ _ hf
                cases hf
              | succ n ih_22 =>
                intro x_20 x_21 o_28 o_29 ls hf hl kx_23
                obtain ⟨q, hf, hc_26⟩ := sm_bnd hf
                have hf : fX0_boat_42 S x_7 x_20 x_21 = some q := hf
                unfold fX0_boat_42 at hf
                refine lv_iload hx hb dX0_boat_42 (lv_at hl 6 rfl) ?_
                refine lv_aload_n hx hb dX0_boat_44 rfl (lv_at hl 0 rfl) ?_
                refine va_get (D := (g.1, g.2.1)) (ci := 0) (v := .ref (ad 1)) (C := RX0) (T := TX0) (N := 20) hx hb hts in_X0 hown hK hP 0 rfl rfl 0 (by decide) (hts _ q269) (fun _ h9 => h9) rfl dX0_boat_45 ?_
                refine va_getN (D := (g.1, g.2.1)) (ci := 1) (v := .int (S.2.2.2.2.1.1 6)) (C := RX1) (T := TX1) (N := 9) hx hb hts in_X1 hown hK hP 1 rfl rfl 6 (by decide) (va_Nw.use rfl (hN _ q121 rfl)) (fun _ h9 => h9) rfl dX0_boat_48 ?_
                refine lv_icmp_ge (tgt := 130) hx hb dX0_boat_51 (by decide) (fun c_30 => ?_) (fun c_30 => ?_)
                · have hf := (if_pos c_30).symm.trans hf
                  cases hf
                  have hc_26 : some (x_20, x_21) = some (o_28, o_29) := hc_26
                  cases hc_26
                  exact kx_23 _ (lv_sub hl [0, 1, 2, 3, 4, 5, 6, 7] rfl)
                · have hf := (if_neg c_30).symm.trans hf
                  refine lv_aload_n hx hb dX0_boat_54 rfl (lv_at hl 0 rfl) ?_
                  refine va_get (D := (g.1, g.2.1)) (ci := 0) (v := .ref (ad 1)) (C := RX0) (T := TX0) (N := 20) hx hb hts in_X0 hown hK hP 0 rfl rfl 0 (by decide) (hts _ q269) (fun _ h9 => h9) rfl dX0_boat_55 ?_
                  refine lv_aload_n hx hb dX0_boat_58 rfl (lv_at hl 0 rfl) ?_
                  refine va_get (D := (g.1, g.2.1)) (ci := 0) (v := .ref (ad 29)) (C := RX0) (T := TX0) (N := 20) hx hb hts in_X0 hown hK hP 0 rfl rfl 1 (by decide) (hts _ q271) (fun _ h9 => h9) rfl dX0_boat_59 ?_
                  refine va_getN (D := (g.1, g.2.1)) (ci := 2) (v := .int ((S.2.2.1 0).1 0)) (C := RX2) (T := TX2) (N := 7) hx hb hts in_X2 hown hK hP 29 rfl rfl 0 (by decide) (va_Nw.use rfl (hN _ q161 rfl)) (fun _ h9 => h9) rfl dX0_boat_62 ?_
                  refine lv_iload hx hb dX0_boat_65 (lv_at hl 3 rfl) ?_
                  refine lv_iadd hx hb dX0_boat_67 ?_
                  obtain ⟨r_31, h_32, hf⟩ := sm_b1_e hf
                  refine vp_callSi (W.runV (As := [.int (((S.2.2.1 0).1 0) + x_7)]) (rest := []) ⟨hx, hb, hml, hown, hts⟩ (wX1_isBoat l g (bd ad) S.2.2.2.2.1 (((S.2.2.1 0).1 0) + x_7) r_31 h_32) (cwV 1 hts (lw_V q604 q605 q606 q61 q607) rfl rfl rfl (by decide +kernel) ⟨Nat.le_of_ble_eq_true rfl, Nat.le_of_ble_eq_true rfl⟩) (sm_pv hE (sm_pB hP) (va_recv hK (sm_pB hP) (ci := 1) (q0 := 0) rfl rfl)) rfl rfl hl.1 rfl (lv_room (Nat.le_of_ble_eq_true rfl)) dX0_boat_68 ⟨Nat.le_of_ble_eq_true rfl, Nat.le_of_ble_eq_true rfl⟩) (fun r_34 er_33 => ?_)
                  have er_33 := er_33.symm
                  subst er_33
                  refine lv_if_eq (tgt := 130) hx hb dX0_boat_71 (by decide) (fun c_35 => ?_) (fun c_35 => ?_)
                  · have hf := (if_pos c_35).symm.trans hf
                    cases hf
                    have hc_26 : some (x_20, x_21) = some (o_28, o_29) := hc_26
                    cases hc_26
                    exact kx_23 _ (lv_sub hl [0, 1, 2, 3, 4, 5, 6, 7] rfl)
                  · have hf := (if_neg c_35).symm.trans hf
                    refine lv_iload hx hb dX0_boat_74 (lv_at hl 7 rfl) ?_
                    refine lv_aload_n hx hb dX0_boat_76 rfl (lv_at hl 0 rfl) ?_
                    refine va_get (D := (g.1, g.2.1)) (ci := 0) (v := .ref (ad 29)) (C := RX0) (T := TX0) (N := 20) hx hb hts in_X0 hown hK hP 0 rfl rfl 1 (by decide) (hts _ q271) (fun _ h9 => h9) rfl dX0_boat_77 ?_
                    refine va_getN (D := (g.1, g.2.1)) (ci := 2) (v := .ref (ad 30)) (C := RX2) (T := TX2) (N := 7) hx hb hts in_X2 hown hK hP 29 rfl rfl 3 (by decide) (va_Nw.use rfl (hN _ q168 rfl)) (fun _ h9 => h9) rfl dX0_boat_80 ?_
                    refine lv_iload hx hb dX0_boat_83 (lv_at hl 6 rfl) ?_
                    obtain ⟨hg, hf⟩ := sm_gd_e hf
                    refine va_iald hx hb hK hP 30 0 rfl rfl (sm_in hg) dX0_boat_85 ?_
                    refine lv_bipush (v := (-9)) hx hb dX0_boat_86 (by decide) ?_
                    refine lv_icmp_eq (tgt := 120) hx hb dX0_boat_88 (by decide) (fun c_36 => ?_) (fun c_36 => ?_)
                    · have hf := (if_pos c_36).symm.trans hf
                      refine lv_iconst (v := 0) hx hb dX0_boat_120 (by decide) ?_
                      refine lv_iadd hx hb dX0_boat_121 ?_
                      refine lv_istore (lv' := [(6, .int (x_21 + 0)), (0, .ref (ad 0)), (1, .int a1), (2, .int a2), (5, .int x_7), (4, .int x_8), (3, .int x_9), (7, .int x_20)]) hx hb dX0_boat_122 hl (by decide) rfl (fun ls hl => ?_)
                      refine lv_iinc (v := x_20 + 1) (lv' := [(7, .int (x_20 + 1)), (6, .int (x_21 + 0)), (0, .ref (ad 0)), (1, .int a1), (2, .int a2), (5, .int x_7), (4, .int x_8), (3, .int x_9)]) hx hb dX0_boat_124 hl (k := 7) rfl rfl (by decide) rfl (fun ls hl => ?_)
                      refine lv_goto (tgt := 42) hx hb dX0_boat_127 (by decide) ?_
                      cases hf
                      exact ih_22 _ _ _ _ _ hc_26 (lv_sub hl [2, 3, 4, 5, 6, 7, 0, 1] rfl) kx_23
                    · have hf := (if_neg c_36).symm.trans hf
                      refine lv_aload_n hx hb dX0_boat_91 rfl (lv_at hl 0 rfl) ?_
                      refine va_get (D := (g.1, g.2.1)) (ci := 0) (v := .ref (ad 29)) (C := RX0) (T := TX0) (N := 20) hx hb hts in_X0 hown hK hP 0 rfl rfl 1 (by decide) (hts _ q271) (fun _ h9 => h9) rfl dX0_boat_92 ?_
                      refine va_getN (D := (g.1, g.2.1)) (ci := 2) (v := .ref (ad 31)) (C := RX2) (T := TX2) (N := 7) hx hb hts in_X2 hown hK hP 29 rfl rfl 4 (by decide) (va_Nw.use rfl (hN _ q170 rfl)) (fun _ h9 => h9) rfl dX0_boat_95 ?_
                      refine lv_iload hx hb dX0_boat_98 (lv_at hl 6 rfl) ?_
                      obtain ⟨hg, hf⟩ := sm_gd_e hf
                      refine va_iald hx hb hK hP 31 0 rfl rfl (sm_in hg) dX0_boat_100 ?_
                      refine lv_iload hx hb dX0_boat_101 (lv_at hl 3 rfl) ?_
                      refine lv_iadd hx hb dX0_boat_103 ?_
                      refine lv_aload_n hx hb dX0_boat_104 rfl (lv_at hl 0 rfl) ?_
                      refine va_get (D := (g.1, g.2.1)) (ci := 0) (v := .ref (ad 1)) (C := RX0) (T := TX0) (N := 20) hx hb hts in_X0 hown hK hP 0 rfl rfl 0 (by decide) (hts _ q269) (fun _ h9 => h9) rfl dX0_boat_105 ?_
                      refine va_getN (D := (g.1, g.2.1)) (ci := 1) (v := .ref (ad 2)) (C := RX1) (T := TX1) (N := 9) hx hb hts in_X1 hown hK hP 1 rfl rfl 0 (by decide) (va_Nw.use rfl (hN _ q101 rfl)) (fun _ h9 => h9) rfl dX0_boat_108 ?_
                      refine lv_iconst (v := 0) hx hb dX0_boat_111 (by decide) ?_
                      refine va_iald hx hb hK hP 2 0 rfl rfl (sm_in rfl) dX0_boat_112 ?_
                      refine lv_icmp_lt (tgt := 120) hx hb dX0_boat_113 (by decide) (fun c_37 => ?_) (fun c_37 => ?_)
                      · have hf := (if_pos c_37).symm.trans hf
                        refine lv_iconst (v := 0) hx hb dX0_boat_120 (by decide) ?_
                        refine lv_iadd hx hb dX0_boat_121 ?_
                        refine lv_istore (lv' := [(6, .int (x_21 + 0)), (0, .ref (ad 0)), (1, .int a1), (2, .int a2), (5, .int x_7), (4, .int x_8), (3, .int x_9), (7, .int x_20)]) hx hb dX0_boat_122 hl (by decide) rfl (fun ls hl => ?_)
                        refine lv_iinc (v := x_20 + 1) (lv' := [(7, .int (x_20 + 1)), (6, .int (x_21 + 0)), (0, .ref (ad 0)), (1, .int a1), (2, .int a2), (5, .int x_7), (4, .int x_8), (3, .int x_9)]) hx hb dX0_boat_124 hl (k := 7) rfl rfl (by decide) rfl (fun ls hl => ?_)
                        refine lv_goto (tgt := 42) hx hb dX0_boat_127 (by decide) ?_
                        cases hf
                        exact ih_22 _ _ _ _ _ hc_26 (lv_sub hl [2, 3, 4, 5, 6, 7, 0, 1] rfl) kx_23
                      · have hf := (if_neg c_37).symm.trans hf
                        refine lv_iconst (v := 1) hx hb dX0_boat_116 (by decide) ?_
                        refine lv_goto (tgt := 121) hx hb dX0_boat_117 (by decide) ?_
                        refine lv_iadd hx hb dX0_boat_121 ?_
                        refine lv_istore (lv' := [(6, .int (x_21 + 1)), (0, .ref (ad 0)), (1, .int a1), (2, .int a2), (5, .int x_7), (4, .int x_8), (3, .int x_9), (7, .int x_20)]) hx hb dX0_boat_122 hl (by decide) rfl (fun ls hl => ?_)
                        refine lv_iinc (v := x_20 + 1) (lv' := [(7, .int (x_20 + 1)), (6, .int (x_21 + 1)), (0, .ref (ad 0)), (1, .int a1), (2, .int a2), (5, .int x_7), (4, .int x_8), (3, .int x_9)]) hx hb dX0_boat_124 hl (k := 7) rfl rfl (by decide) rfl (fun ls hl => ?_)
                        refine lv_goto (tgt := 42) hx hb dX0_boat_127 (by decide) ?_
                        cases hf
                        exact ih_22 _ _ _ _ _ hc_26 (lv_sub hl [2, 3, 4, 5, 6, 7, 0, 1] rfl) kx_23
            obtain ⟨x_39, x_40, ho, hf⟩ := sm_b2_e hf
            refine L_27 FU 0 0 x_39 x_40 ls ho (lv_sub hl [2, 3, 4, 5, 6, 7, 0, 1] rfl) ?_
            intro ls hl
            refine lv_iload hx hb dX0_boat_130 (lv_at hl 7 rfl) ?_
            refine lv_iload hx hb dX0_boat_132 (lv_at hl 4 rfl) ?_
            refine lv_icmp_le (tgt := 152) hx hb dX0_boat_134 (by decide) (fun c_41 => ?_) (fun c_41 => ?_)
            · have hf := (if_pos c_41).symm.trans hf
              refine lv_iinc (v := x_7 + 1) (lv' := [(5, .int (x_7 + 1)), (0, .ref (ad 0)), (1, .int a1), (2, .int a2), (4, .int x_8), (3, .int x_9), (7, .int x_39), (6, .int x_40)]) hx hb dX0_boat_152 hl (k := 3) rfl rfl (by decide) rfl (fun ls hl => ?_)
              refine lv_goto (tgt := 30) hx hb dX0_boat_155 (by decide) ?_
              cases hf
              exact ih_10 _ _ _ _ _ _ _ hc_14 (lv_sub hl [1, 2, 3, 0, 4, 5] rfl) kx_11
            · have hf := (if_neg c_41).symm.trans hf
              refine lv_aload_n hx hb dX0_boat_137 rfl (lv_at hl 0 rfl) ?_
              refine va_get (D := (g.1, g.2.1)) (ci := 0) (v := .ref (ad 29)) (C := RX0) (T := TX0) (N := 20) hx hb hts in_X0 hown hK hP 0 rfl rfl 1 (by decide) (hts _ q271) (fun _ h9 => h9) rfl dX0_boat_138 ?_
              refine va_getN (D := (g.1, g.2.1)) (ci := 2) (v := .int ((S.2.2.1 0).1 0)) (C := RX2) (T := TX2) (N := 7) hx hb hts in_X2 hown hK hP 29 rfl rfl 0 (by decide) (va_Nw.use rfl (hN _ q161 rfl)) (fun _ h9 => h9) rfl dX0_boat_141 ?_
              refine lv_iload hx hb dX0_boat_144 (lv_at hl 3 rfl) ?_
              refine lv_iadd hx hb dX0_boat_146 ?_
              refine lv_istore_n (lv' := [(3, .int (((S.2.2.1 0).1 0) + x_7)), (0, .ref (ad 0)), (1, .int a1), (2, .int a2), (5, .int x_7), (4, .int x_8), (7, .int x_39), (6, .int x_40)]) hx hb dX0_boat_147 rfl hl (by decide) rfl (fun ls hl => ?_)
              refine lv_iload hx hb dX0_boat_148 (lv_at hl 7 rfl) ?_
              refine lv_istore (lv' := [(4, .int x_40), (3, .int (((S.2.2.1 0).1 0) + x_7)), (0, .ref (ad 0)), (1, .int a1), (2, .int a2), (5, .int x_7), (7, .int x_39), (6, .int x_40)]) hx hb dX0_boat_150 hl (by decide) rfl (fun ls hl => ?_)
              refine lv_iinc (v := x_7 + 1) (lv' := [(5, .int (x_7 + 1)), (4, .int x_40), (3, .int (((S.2.2.1 0).1 0) + x_7)), (0, .ref (ad 0)), (1, .int a1), (2, .int a2), (7, .int x_39), (6, .int x_40)]) hx hb dX0_boat_152 hl (k := 5) rfl rfl (by decide) rfl (fun ls hl => ?_)
              refine lv_goto (tgt := 30) hx hb dX0_boat_155 (by decide) ?_
              cases hf
              exact ih_10 _ _ _ _ _ _ _ hc_14 (lv_sub hl [3, 4, 5, 0, 1, 2] rfl) kx_11
      obtain ⟨x_43, x_44, x_45, ho, hf⟩ := sm_b3_e hf
      refine L_15 FU 0 0 (-9) x_43 x_44 x_45 ls ho (lv_sub hl [3, 4, 5, 0, 1, 2] rfl) ?_
      intro ls hl
      refine lv_iload_n hx hb dX0_boat_158 rfl (lv_at hl 2 rfl) ?_
      refine lv_if_eq (tgt := 168) hx hb dX0_boat_159 (by decide) (fun c_46 => ?_) (fun c_46 => ?_)
      · have hf := (if_pos c_46).symm.trans hf
        refine lv_iload_n hx hb dX0_boat_168 rfl (lv_at hl 5 rfl) ?_
        refine lv_goto (tgt := 174) hx hb dX0_boat_169 (by decide) ?_
        have hf := Option.some.inj hf
        rw [← hQ]
        exact W.iret (v := x_45) hx hb hr (fun t ht hW => ⟨_, rfl, hf, ht⟩) (fun _ h => by cases h) dX0_boat_174
      · have hf := (if_neg c_46).symm.trans hf
        refine lv_iload_n hx hb dX0_boat_162 rfl (lv_at hl 5 rfl) ?_
        refine lv_bipush (v := (-9)) hx hb dX0_boat_163 (by decide) ?_
        refine lv_icmp_ne (tgt := 172) hx hb dX0_boat_165 (by decide) (fun c_47 => ?_) (fun c_47 => ?_)
        · have hf := (if_neg c_47).symm.trans hf
          refine lv_iload hx hb dX0_boat_172 (lv_at hl 4 rfl) ?_
          have hf := Option.some.inj hf
          rw [← hQ]
          exact W.iret (v := x_44) hx hb hr (fun t ht hW => ⟨_, rfl, hf, ht⟩) (fun _ h => by cases h) dX0_boat_174
        · have hf := (if_pos c_47).symm.trans hf
          refine lv_iload_n hx hb dX0_boat_168 rfl (lv_at hl 5 rfl) ?_
          refine lv_goto (tgt := 174) hx hb dX0_boat_169 (by decide) ?_
          have hf := Option.some.inj hf
          rw [← hQ]
          exact W.iret (v := x_45) hx hb hr (fun t ht hW => ⟨_, rfl, hf, ht⟩) (fun _ h => by cases h) dX0_boat_174
    · have hf := (if_pos c_6).symm.trans hf
      refine lv_iconst (v := (-1)) hx hb dX0_boat_19 (by decide) ?_
      have hf := Option.some.inj hf
      rw [← hQ]
      exact W.iret (v := (-1)) hx hb hr (fun t ht hW => ⟨_, rfl, hf, ht⟩) (fun _ h => by cases h) dX0_boat_20
abbrev rX0_writes : Room := { frames := 3, cells := 0, slots := 0, locals := 102 }
set_option maxHeartbeats 4000000 in
theorem wX0_writes (l : Launch) (g : GG) (ad : Nat → Nat) (S : XS) (a1 : Int32) (Sf : XS) (rf : Int32) (hf : fX0_writes S a1 = some (Sf, rf)) : Met l yX0_writes (ws_ yX0_writes cX0_writes 2 (some .int)) rX0_writes (va_Pc [.ref (ad 0), .int a1] (fun Ux => PP g (WX g ad S) Ux.heap ∧ EV g Ux ∧ va_D (AX ad) (WX g ad S))) (va_Qi (fun y (_ : Unit) => y = rf) (fun _ t => PP g (WX g ad Sf) t.heap ∧ va_D (AX ad) (WX g ad Sf)) (AX ad)) 0 0 (AX ad) := by
  refine sm_st (by decide) ?_
  intro p e s m args below meth c hx hb hr hlocks hml hown hnm hts hv
  obtain ⟨hargs, hP, hE, hD⟩ := hv
  obtain ⟨hK, hN⟩ := id hE
  have hS : va_S (AX ad) s.heap s.heap [] := va_S.rf
  have hown : s.vm.findClass RX0 = some m.cls := hown
  refine sm_en _ (Nat.le_of_ble_eq_true rfl) hargs (fun ls hl => ?_)
  have hl : lv_has ls 2 [(0, .ref (ad 0)), (1, .int a1)] := hl
  generalize hQ : MQ below _ args s _ _ _ = Q
  unfold fX0_writes at hf
  refine lv_iload_n hx hb dX0_writes_0 rfl (lv_at hl 1 rfl) ?_
  refine lv_iconst (v := 0) hx hb dX0_writes_1 (by decide) ?_
  refine lv_bipush (v := 9) hx hb dX0_writes_2 (by decide) ?_
  refine vp_callSi (W.runS (As := [.int a1, .int 0, .int 9]) (rest := []) ⟨hx, hb, hml, hown, hts⟩ (wX0_in l a1 0 9 (fX0_in a1 0 9) rfl) (va_cwS 3 hts (lw_S q343 q344 q60 q345) rfl rfl rfl (by decide +kernel) ⟨Nat.le_of_ble_eq_true rfl, Nat.le_of_ble_eq_true rfl⟩) (sm_ps) rfl rfl hl.1 rfl (lv_room (Nat.le_of_ble_eq_true rfl)) dX0_writes_4 ⟨Nat.le_of_ble_eq_true rfl, Nat.le_of_ble_eq_true rfl⟩) (fun r_2 er_1 => ?_)
  have er_1 := er_1.symm
  subst er_1
  refine lv_if_ne (tgt := 12) hx hb dX0_writes_7 (by decide) (fun c_3 => ?_) (fun c_3 => ?_)
  · have hf := (if_neg c_3).symm.trans hf
    refine lv_aload_n hx hb dX0_writes_12 rfl (lv_at hl 0 rfl) ?_
    refine va_get (D := (g.1, g.2.1)) (ci := 0) (v := .ref (ad 29)) (C := RX0) (T := TX0) (N := 20) hx hb hts in_X0 hown hK hP 0 rfl rfl 1 (by decide) (hts _ q271) (fun _ h9 => h9) rfl dX0_writes_13 ?_
    refine va_getN (D := (g.1, g.2.1)) (ci := 2) (v := .int ((S.2.2.1 0).1 6)) (C := RX2) (T := TX2) (N := 7) hx hb hts in_X2 hown hK hP 29 rfl rfl 6 (by decide) (va_Nw.use rfl (hN _ q174 rfl)) (fun _ h9 => h9) rfl dX0_writes_16 ?_
    refine lv_iconst (v := 5) hx hb dX0_writes_19 (by decide) ?_
    refine lv_icmp_ne (tgt := 26) hx hb dX0_writes_20 (by decide) (fun c_4 => ?_) (fun c_4 => ?_)
    · have hf := (if_neg c_4).symm.trans hf
      refine lv_aload_n hx hb dX0_writes_26 rfl (lv_at hl 0 rfl) ?_
      obtain ⟨S_5, h_6, hf⟩ := sm_b1_e hf
      refine va_callv (va_runV (As := []) (rest := []) ⟨hx, hb, hml, hown, hts⟩ (wX0_know l g ad S  S_5 h_6) (cwV 0 hts (lw_V q616 q618 qs10 q60 q619) rfl rfl rfl (by decide +kernel) ⟨Nat.le_of_ble_eq_true rfl, Nat.le_of_ble_eq_true rfl⟩) (sm_pe hE hP hD (va_recv hK hP (ci := 0) (q0 := 0) rfl rfl)) rfl rfl hl.1 rfl (lv_room (Nat.le_of_ble_eq_true rfl)) dX0_writes_27 ⟨Nat.le_of_ble_eq_true rfl, Nat.le_of_ble_eq_true rfl⟩) hS (fun _ _ h => h) (fun _ h => h) (fun u t H locs ht hvm er_7 hB hz hk hS => ?_)
      obtain ⟨hP, hD⟩ := hB
      rw [ht] at hP
      refine lv_aload_n hx hb dX0_writes_30 rfl (lv_at hl 0 rfl) ?_
      refine va_get (D := (g.1, g.2.1)) (ci := 0) (v := .ref (ad 29)) (C := RX0) (T := TX0) (N := 20) hx hb hts in_X0 hown hK hP 0 rfl rfl 1 (by decide) (hts _ q271) (fun _ h9 => h9) rfl dX0_writes_31 ?_
      refine va_getN (D := (g.1, g.2.1)) (ci := 2) (v := .ref (ad 32)) (C := RX2) (T := TX2) (N := 7) hx hb hts in_X2 hown hK hP 29 rfl rfl 5 (by decide) (va_Nw.use rfl (hN _ q172 rfl)) (fun _ h9 => h9) rfl dX0_writes_34 ?_
      refine lv_aload_n hx hb dX0_writes_37 rfl (lv_at hl 0 rfl) ?_
      refine va_get (D := (g.1, g.2.1)) (ci := 0) (v := .ref (ad 29)) (C := RX0) (T := TX0) (N := 20) hx hb hts in_X0 hown hK hP 0 rfl rfl 1 (by decide) (hts _ q271) (fun _ h9 => h9) rfl dX0_writes_38 ?_
      refine va_getN (D := (g.1, g.2.1)) (ci := 2) (v := .int ((S_5.2.2.1 0).1 6)) (C := RX2) (T := TX2) (N := 7) hx hb hts in_X2 hown hK hP 29 rfl rfl 6 (by decide) (va_Nw.use rfl (hN _ q174 rfl)) (fun _ h9 => h9) rfl dX0_writes_41 ?_
      refine lv_iload_n hx hb dX0_writes_44 rfl (lv_at hl 1 rfl) ?_
      obtain ⟨hg, hf⟩ := sm_gd_e hf
      refine va_iast (i := (S_5.2.2.1 0).1 6) (x := a1) hx hb hK hP hD hS 32 0 rfl rfl (sm_in hg) dX0_writes_45 (fun H locs hP hD hS => ?_)
      obtain ⟨S_9, eS_9, hf⟩ := sm_lt_e hf
      have hP : PP g (WX g ad S_9) H := by rw [eS_9]; exact pxm5 hP
      have hD : va_D (AX ad) (WX g ad S_9) := by rw [eS_9]; exact dxm5 hD
      refine lv_aload_n hx hb dX0_writes_46 rfl (lv_at hl 0 rfl) ?_
      refine va_get (D := (g.1, g.2.1)) (ci := 0) (v := .ref (ad 29)) (C := RX0) (T := TX0) (N := 20) hx hb hts in_X0 hown hK hP 0 rfl rfl 1 (by decide) (hts _ q271) (fun _ h9 => h9) rfl dX0_writes_47 ?_
      refine lv_dup hx hb dX0_writes_50 rfl ?_
      refine va_getN (D := (g.1, g.2.1)) (ci := 2) (v := .int ((S_9.2.2.1 0).1 6)) (C := RX2) (T := TX2) (N := 7) hx hb hts in_X2 hown hK hP 29 rfl rfl 6 (by decide) (va_Nw.use rfl (hN _ q174 rfl)) (fun _ h9 => h9) rfl dX0_writes_51 ?_
      refine lv_iconst (v := 1) hx hb dX0_writes_54 (by decide) ?_
      refine lv_iadd hx hb dX0_writes_55 ?_
      refine va_putN (D := (g.1, g.2.1)) (ci := 2) (v := .int (((S_9.2.2.1 0).1 6) + 1)) (ty := .int) (C := RX2) (T := TX2) (N := 7) hx hb hts in_X2 tyX2 tyX2_ok nmX2 hown hK hP hD hS 29 rfl rfl 6 (by decide) (va_Nw.use rfl (hN _ q174 rfl)) (fun _ h9 => h9) rfl (by decide +kernel) rfl rfl (Nat.le_of_ble_eq_true rfl) dX0_writes_56 (fun H locs hP hD hS => ?_)
      obtain ⟨S_10, eS_10, hf⟩ := sm_lt_e hf
      have hP : PP g (WX g ad S_10) H := by rw [eS_10]; exact pxn6 hP
      have hD : va_D (AX ad) (WX g ad S_10) := by rw [eS_10]; exact dxn6 hD
      refine lv_aload_n hx hb dX0_writes_59 rfl (lv_at hl 0 rfl) ?_
      refine va_get (D := (g.1, g.2.1)) (ci := 0) (v := .ref (ad 29)) (C := RX0) (T := TX0) (N := 20) hx hb hts in_X0 hown hK hP 0 rfl rfl 1 (by decide) (hts _ q271) (fun _ h9 => h9) rfl dX0_writes_60 ?_
      refine va_getN (D := (g.1, g.2.1)) (ci := 2) (v := .int ((S_10.2.2.1 0).1 6)) (C := RX2) (T := TX2) (N := 7) hx hb hts in_X2 hown hK hP 29 rfl rfl 6 (by decide) (va_Nw.use rfl (hN _ q174 rfl)) (fun _ h9 => h9) rfl dX0_writes_63 ?_
      have hf := Option.some.inj hf
      rw [← hQ]
      have hf := Prod.mk.inj hf
      exact W.iret (v := (S_10.2.2.1 0).1 6) hx hb hr (fun t ht hW => ⟨⟨_, (), rfl, hf.2, by rw [ht, ← hf.1]; exact hP, by rw [← hf.1]; exact hD⟩, hS.F ht⟩) hS.2.2 dX0_writes_66
    · have hf := (if_pos c_4).symm.trans hf
      refine lv_bipush (v := (-3)) hx hb dX0_writes_23 (by decide) ?_
      have hf := Option.some.inj hf
      rw [← hQ]
      have hf := Prod.mk.inj hf
      exact W.iret (v := (-3)) hx hb hr (fun t ht hW => ⟨⟨_, (), rfl, hf.2, by rw [ht, ← hf.1]; exact hP, by rw [← hf.1]; exact hD⟩, hS.F ht⟩) hS.2.2 dX0_writes_25
  · have hf := (if_pos c_3).symm.trans hf
    refine lv_iconst (v := (-1)) hx hb dX0_writes_10 (by decide) ?_
    have hf := Option.some.inj hf
    rw [← hQ]
    have hf := Prod.mk.inj hf
    exact W.iret (v := (-1)) hx hb hr (fun t ht hW => ⟨⟨_, (), rfl, hf.2, by rw [ht, ← hf.1]; exact hP, by rw [← hf.1]; exact hD⟩, hS.F ht⟩) hS.2.2 dX0_writes_11
abbrev rX0_tears : Room := { frames := 3, cells := 0, slots := 0, locals := 102 }
set_option maxHeartbeats 4000000 in
theorem wX0_tears (l : Launch) (g : GG) (ad : Nat → Nat) (S : XS) (Sf : XS) (rf : Int32) (hf : fX0_tears S = some (Sf, rf)) : Met l yX0_tears (ws_ yX0_tears cX0_tears 2 (some .int)) rX0_tears (va_Pc [.ref (ad 0)] (fun Ux => PP g (WX g ad S) Ux.heap ∧ EV g Ux ∧ va_D (AX ad) (WX g ad S))) (va_Qi (fun y (_ : Unit) => y = rf) (fun _ t => PP g (WX g ad Sf) t.heap ∧ va_D (AX ad) (WX g ad Sf)) (AX ad)) 0 0 (AX ad) := by
  refine sm_st (by decide) ?_
  intro p e s m args below meth c hx hb hr hlocks hml hown hnm hts hv
  obtain ⟨hargs, hP, hE, hD⟩ := hv
  obtain ⟨hK, hN⟩ := id hE
  have hS : va_S (AX ad) s.heap s.heap [] := va_S.rf
  have hown : s.vm.findClass RX0 = some m.cls := hown
  refine sm_en _ (Nat.le_of_ble_eq_true rfl) hargs (fun ls hl => ?_)
  have hl : lv_has ls 2 [(0, .ref (ad 0))] := hl
  generalize hQ : MQ below _ args s _ _ _ = Q
  unfold fX0_tears at hf
  refine lv_aload_n hx hb dX0_tears_0 rfl (lv_at hl 0 rfl) ?_
  obtain ⟨S_1, h_2, hf⟩ := sm_b1_e hf
  refine va_callv (va_runV (As := []) (rest := []) ⟨hx, hb, hml, hown, hts⟩ (wX0_know l g ad S  S_1 h_2) (cwV 0 hts (lw_V q616 q618 qs10 q60 q619) rfl rfl rfl (by decide +kernel) ⟨Nat.le_of_ble_eq_true rfl, Nat.le_of_ble_eq_true rfl⟩) (sm_pe hE hP hD (va_recv hK hP (ci := 0) (q0 := 0) rfl rfl)) rfl rfl hl.1 rfl (lv_room (Nat.le_of_ble_eq_true rfl)) dX0_tears_1 ⟨Nat.le_of_ble_eq_true rfl, Nat.le_of_ble_eq_true rfl⟩) hS (fun _ _ h => h) (fun _ h => h) (fun u t H locs ht hvm er_3 hB hz hk hS => ?_)
  obtain ⟨hP, hD⟩ := hB
  rw [ht] at hP
  refine lv_aload_n hx hb dX0_tears_4 rfl (lv_at hl 0 rfl) ?_
  refine va_get (D := (g.1, g.2.1)) (ci := 0) (v := .ref (ad 29)) (C := RX0) (T := TX0) (N := 20) hx hb hts in_X0 hown hK hP 0 rfl rfl 1 (by decide) (hts _ q271) (fun _ h9 => h9) rfl dX0_tears_5 ?_
  refine va_getN (D := (g.1, g.2.1)) (ci := 2) (v := .int ((S_1.2.2.1 0).1 6)) (C := RX2) (T := TX2) (N := 7) hx hb hts in_X2 hown hK hP 29 rfl rfl 6 (by decide) (va_Nw.use rfl (hN _ q174 rfl)) (fun _ h9 => h9) rfl dX0_tears_8 ?_
  refine lv_istore_n (lv' := [(1, .int ((S_1.2.2.1 0).1 6)), (0, .ref (ad 0))]) hx hb dX0_tears_11 rfl hl (by decide) rfl (fun ls hl => ?_)
  refine lv_aload_n hx hb dX0_tears_12 rfl (lv_at hl 1 rfl) ?_
  refine va_get (D := (g.1, g.2.1)) (ci := 0) (v := .ref (ad 29)) (C := RX0) (T := TX0) (N := 20) hx hb hts in_X0 hown hK hP 0 rfl rfl 1 (by decide) (hts _ q271) (fun _ h9 => h9) rfl dX0_tears_13 ?_
  refine lv_iconst (v := 0) hx hb dX0_tears_16 (by decide) ?_
  refine va_putN (D := (g.1, g.2.1)) (ci := 2) (v := .int 0) (ty := .int) (C := RX2) (T := TX2) (N := 7) hx hb hts in_X2 tyX2 tyX2_ok nmX2 hown hK hP hD hS 29 rfl rfl 6 (by decide) (va_Nw.use rfl (hN _ q174 rfl)) (fun _ h9 => h9) rfl (by decide +kernel) rfl rfl (Nat.le_of_ble_eq_true rfl) dX0_tears_17 (fun H locs hP hD hS => ?_)
  obtain ⟨S_5, eS_5, hf⟩ := sm_lt_e hf
  have hP : PP g (WX g ad S_5) H := by rw [eS_5]; exact pxn6 hP
  have hD : va_D (AX ad) (WX g ad S_5) := by rw [eS_5]; exact dxn6 hD
  refine lv_iload_n hx hb dX0_tears_20 rfl (lv_at hl 0 rfl) ?_
  have hf := Option.some.inj hf
  rw [← hQ]
  have hf := Prod.mk.inj hf
  exact W.iret (v := (S_1.2.2.1 0).1 6) hx hb hr (fun t ht hW => ⟨⟨_, (), rfl, hf.2, by rw [ht, ← hf.1]; exact hP, by rw [← hf.1]; exact hD⟩, hS.F ht⟩) hS.2.2 dX0_tears_21
abbrev rX0_smokes : Room := { frames := 3, cells := 0, slots := 0, locals := 102 }
set_option maxHeartbeats 4000000 in
theorem wX0_smokes (l : Launch) (g : GG) (ad : Nat → Nat) (S : XS) (a1 : Int32) (Sf : XS) (rf : Int32) (hf : fX0_smokes S a1 = some (Sf, rf)) : Met l yX0_smokes (ws_ yX0_smokes cX0_smokes 4 (some .int)) rX0_smokes (va_Pc [.ref (ad 0), .int a1] (fun Ux => PP g (WX g ad S) Ux.heap ∧ EV g Ux ∧ va_D (AX ad) (WX g ad S))) (va_Qi (fun y (_ : Unit) => y = rf) (fun _ t => PP g (WX g ad Sf) t.heap ∧ va_D (AX ad) (WX g ad Sf)) (AX ad)) 0 0 (AX ad) := by
  refine sm_st (by decide) ?_
  intro p e s m args below meth c hx hb hr hlocks hml hown hnm hts hv
  obtain ⟨hargs, hP, hE, hD⟩ := hv
  obtain ⟨hK, hN⟩ := id hE
  have hS : va_S (AX ad) s.heap s.heap [] := va_S.rf
  have hown : s.vm.findClass RX0 = some m.cls := hown
  refine sm_en _ (Nat.le_of_ble_eq_true rfl) hargs (fun ls hl => ?_)
  have hl : lv_has ls 4 [(0, .ref (ad 0)), (1, .int a1)] := hl
  generalize hQ : MQ below _ args s _ _ _ = Q
  unfold fX0_smokes at hf
  refine lv_aload_n hx hb dX0_smokes_0 rfl (lv_at hl 0 rfl) ?_
  refine lv_iload_n hx hb dX0_smokes_1 rfl (lv_at hl 1 rfl) ?_
  refine vp_callSi (W.runV (As := [.int a1]) (rest := []) ⟨hx, hb, hml, hown, hts⟩ (wX0_isClerk l g ad S a1 (fX0_isClerk S a1) rfl) (cwV 1 hts (lw_V q588 q590 qs8 q60 q591) rfl rfl rfl (by decide +kernel) ⟨Nat.le_of_ble_eq_true rfl, Nat.le_of_ble_eq_true rfl⟩) (sm_pv hE hP (va_recv hK hP (ci := 0) (q0 := 0) rfl rfl)) rfl rfl hl.1 rfl (lv_room (Nat.le_of_ble_eq_true rfl)) dX0_smokes_2 ⟨Nat.le_of_ble_eq_true rfl, Nat.le_of_ble_eq_true rfl⟩) (fun r_2 er_1 => ?_)
  have er_1 := er_1.symm
  subst er_1
  refine lv_if_ne (tgt := 10) hx hb dX0_smokes_5 (by decide) (fun c_3 => ?_) (fun c_3 => ?_)
  · have hf := (if_neg c_3).symm.trans hf
    refine lv_aload_n hx hb dX0_smokes_10 rfl (lv_at hl 0 rfl) ?_
    obtain ⟨S_4, h_5, hf⟩ := sm_b1_e hf
    refine va_callv (va_runV (As := []) (rest := []) ⟨hx, hb, hml, hown, hts⟩ (wX0_know l g ad S  S_4 h_5) (cwV 0 hts (lw_V q616 q618 qs10 q60 q619) rfl rfl rfl (by decide +kernel) ⟨Nat.le_of_ble_eq_true rfl, Nat.le_of_ble_eq_true rfl⟩) (sm_pe hE hP hD (va_recv hK hP (ci := 0) (q0 := 0) rfl rfl)) rfl rfl hl.1 rfl (lv_room (Nat.le_of_ble_eq_true rfl)) dX0_smokes_11 ⟨Nat.le_of_ble_eq_true rfl, Nat.le_of_ble_eq_true rfl⟩) hS (fun _ _ h => h) (fun _ h => h) (fun u t H locs ht hvm er_6 hB hz hk hS => ?_)
    obtain ⟨hP, hD⟩ := hB
    rw [ht] at hP
    refine lv_iconst (v := 0) hx hb dX0_smokes_14 (by decide) ?_
    refine lv_istore_n (lv' := [(2, .int 0), (0, .ref (ad 0)), (1, .int a1)]) hx hb dX0_smokes_15 rfl hl (by decide) rfl (fun ls hl => ?_)
    refine lv_iconst (v := 0) hx hb dX0_smokes_16 (by decide) ?_
    refine lv_istore_n (lv' := [(3, .int 0), (2, .int 0), (0, .ref (ad 0)), (1, .int a1)]) hx hb dX0_smokes_17 rfl hl (by decide) rfl (fun ls hl => ?_)
    have L_16 : ∀ (n : Nat) (x_8 : Int32) (x_9 : Int32) (S_10 : XS) (o_17 : Int32) (o_18 : Int32) (o_19 : XS) (H : Heap) (locs : List Loc) (ls : Array Slot), sm_lp (fun q => fX0_smokes_18 a1 q.1 q.2.1 q.2.2) n (x_8, x_9, S_10) = some (o_17, o_18, o_19) → PP g (WX g ad S_10) H → va_D (AX ad) (WX g ad S_10) → va_S (AX ad) s.heap H locs → lv_has ls 4 [(0, .ref (ad 0)), (1, .int a1), (3, .int x_8), (2, .int x_9)] → (∀ (H : Heap) (locs : List Loc) (ls : Array Slot), PP g (WX g ad o_19) H → va_D (AX ad) (WX g ad o_19) → va_S (AX ad) s.heap H locs → lv_has ls 4 [(0, .ref (ad 0)), (1, .int a1), (3, .int o_17), (2, .int o_18)] → W p l e rX0_smokes s m args below meth c H locs 0 0 Q (F0 m 83 ls [])) → W p l e rX0_smokes s m args below meth c H locs 0 0 Q (F0 m 18 ls []) := by
      intro n
      induction n with
      | zero =>
        intro _ _ _ _ _ _ _ _ _ hf
        cases hf
      | succ n ih_11 =>
        intro x_8 x_9 S_10 o_17 o_18 o_19 H locs ls hf hP hD hS hl kx_12
        obtain ⟨q, hf, hc_15⟩ := sm_bnd hf
        have hf : fX0_smokes_18 a1 x_8 x_9 S_10 = some q := hf
        unfold fX0_smokes_18 at hf
        refine lv_iload_n hx hb dX0_smokes_18 rfl (lv_at hl 2 rfl) ?_
        refine lv_aload_n hx hb dX0_smokes_19 rfl (lv_at hl 0 rfl) ?_
        refine va_get (D := (g.1, g.2.1)) (ci := 0) (v := .ref (ad 29)) (C := RX0) (T := TX0) (N := 20) hx hb hts in_X0 hown hK hP 0 rfl rfl 1 (by decide) (hts _ q271) (fun _ h9 => h9) rfl dX0_smokes_20 ?_
        refine va_getN (D := (g.1, g.2.1)) (ci := 2) (v := .int ((S_10.2.2.1 0).1 6)) (C := RX2) (T := TX2) (N := 7) hx hb hts in_X2 hown hK hP 29 rfl rfl 6 (by decide) (va_Nw.use rfl (hN _ q174 rfl)) (fun _ h9 => h9) rfl dX0_smokes_23 ?_
        refine lv_icmp_ge (tgt := 83) hx hb dX0_smokes_26 (by decide) (fun c_20 => ?_) (fun c_20 => ?_)
        · have hf := (if_pos c_20).symm.trans hf
          cases hf
          have hc_15 : some (x_8, x_9, S_10) = some (o_17, o_18, o_19) := hc_15
          cases hc_15
          exact kx_12 _ _ _ hP hD hS (lv_sub hl [0, 1, 2, 3] rfl)
        · have hf := (if_neg c_20).symm.trans hf
          refine lv_aload_n hx hb dX0_smokes_29 rfl (lv_at hl 0 rfl) ?_
          refine va_get (D := (g.1, g.2.1)) (ci := 0) (v := .ref (ad 29)) (C := RX0) (T := TX0) (N := 20) hx hb hts in_X0 hown hK hP 0 rfl rfl 1 (by decide) (hts _ q271) (fun _ h9 => h9) rfl dX0_smokes_30 ?_
          refine va_getN (D := (g.1, g.2.1)) (ci := 2) (v := .ref (ad 32)) (C := RX2) (T := TX2) (N := 7) hx hb hts in_X2 hown hK hP 29 rfl rfl 5 (by decide) (va_Nw.use rfl (hN _ q172 rfl)) (fun _ h9 => h9) rfl dX0_smokes_33 ?_
          refine lv_iload_n hx hb dX0_smokes_36 rfl (lv_at hl 2 rfl) ?_
          refine lv_aload_n hx hb dX0_smokes_37 rfl (lv_at hl 0 rfl) ?_
          refine va_get (D := (g.1, g.2.1)) (ci := 0) (v := .ref (ad 1)) (C := RX0) (T := TX0) (N := 20) hx hb hts in_X0 hown hK hP 0 rfl rfl 0 (by decide) (hts _ q269) (fun _ h9 => h9) rfl dX0_smokes_38 ?_
          refine lv_iload_n hx hb dX0_smokes_41 rfl (lv_at hl 1 rfl) ?_
          refine lv_aload_n hx hb dX0_smokes_42 rfl (lv_at hl 0 rfl) ?_
          refine va_get (D := (g.1, g.2.1)) (ci := 0) (v := .ref (ad 29)) (C := RX0) (T := TX0) (N := 20) hx hb hts in_X0 hown hK hP 0 rfl rfl 1 (by decide) (hts _ q271) (fun _ h9 => h9) rfl dX0_smokes_43 ?_
          refine va_getN (D := (g.1, g.2.1)) (ci := 2) (v := .ref (ad 32)) (C := RX2) (T := TX2) (N := 7) hx hb hts in_X2 hown hK hP 29 rfl rfl 5 (by decide) (va_Nw.use rfl (hN _ q172 rfl)) (fun _ h9 => h9) rfl dX0_smokes_46 ?_
          refine lv_iload_n hx hb dX0_smokes_49 rfl (lv_at hl 2 rfl) ?_
          obtain ⟨hg, hf⟩ := sm_gd_e hf
          refine va_iald hx hb hK hP 32 0 rfl rfl (sm_in hg) dX0_smokes_50 ?_
          obtain ⟨r_21, h_22, hf⟩ := sm_b1_e hf
          refine vp_callSi (W.runV (As := [.int a1, .int ((S_10.2.2.1 0).2 5 x_8.toNatClampNeg)]) (rest := [.int x_8, .ref (ad 32)]) ⟨hx, hb, hml, hown, hts⟩ (wX1_copied l g (bd ad) S_10.2.2.2.2.1 a1 ((S_10.2.2.1 0).2 5 x_8.toNatClampNeg) r_21 h_22) (cwV 2 hts (lw_V q741 q742 q743 q61 q744) rfl rfl rfl (by decide +kernel) ⟨Nat.le_of_ble_eq_true rfl, Nat.le_of_ble_eq_true rfl⟩) (sm_pv hE (sm_pB hP) (va_recv hK (sm_pB hP) (ci := 1) (q0 := 0) rfl rfl)) rfl rfl hl.1 rfl (lv_room (Nat.le_of_ble_eq_true rfl)) dX0_smokes_51 ⟨Nat.le_of_ble_eq_true rfl, Nat.le_of_ble_eq_true rfl⟩) (fun r_24 er_23 => ?_)
          have er_23 := er_23.symm
          subst er_23
          obtain ⟨hg, hf⟩ := sm_gd_e hf
          refine va_iast (i := x_8) (x := r_21) hx hb hK hP hD hS 32 0 rfl rfl (sm_in hg) dX0_smokes_54 (fun H locs hP hD hS => ?_)
          obtain ⟨S_25, eS_25, hf⟩ := sm_lt_e hf
          have hP : PP g (WX g ad S_25) H := by rw [eS_25]; exact pxm5 hP
          have hD : va_D (AX ad) (WX g ad S_25) := by rw [eS_25]; exact dxm5 hD
          refine lv_iload_n hx hb dX0_smokes_55 rfl (lv_at hl 3 rfl) ?_
          refine lv_aload_n hx hb dX0_smokes_56 rfl (lv_at hl 0 rfl) ?_
          refine va_get (D := (g.1, g.2.1)) (ci := 0) (v := .ref (ad 29)) (C := RX0) (T := TX0) (N := 20) hx hb hts in_X0 hown hK hP 0 rfl rfl 1 (by decide) (hts _ q271) (fun _ h9 => h9) rfl dX0_smokes_57 ?_
          refine va_getN (D := (g.1, g.2.1)) (ci := 2) (v := .ref (ad 32)) (C := RX2) (T := TX2) (N := 7) hx hb hts in_X2 hown hK hP 29 rfl rfl 5 (by decide) (va_Nw.use rfl (hN _ q172 rfl)) (fun _ h9 => h9) rfl dX0_smokes_60 ?_
          refine lv_iload_n hx hb dX0_smokes_63 rfl (lv_at hl 2 rfl) ?_
          obtain ⟨hg, hf⟩ := sm_gd_e hf
          refine va_iald hx hb hK hP 32 0 rfl rfl (sm_in hg) dX0_smokes_64 ?_
          refine lv_bipush (v := 10) hx hb dX0_smokes_65 (by decide) ?_
          refine lv_icmp_ne (tgt := 74) hx hb dX0_smokes_67 (by decide) (fun c_26 => ?_) (fun c_26 => ?_)
          · have hf := (if_neg c_26).symm.trans hf
            refine lv_iconst (v := 0) hx hb dX0_smokes_74 (by decide) ?_
            refine lv_iadd hx hb dX0_smokes_75 ?_
            refine lv_istore_n (lv' := [(2, .int (x_9 + 0)), (0, .ref (ad 0)), (1, .int a1), (3, .int x_8)]) hx hb dX0_smokes_76 rfl hl (by decide) rfl (fun ls hl => ?_)
            refine lv_iinc (v := x_8 + 1) (lv' := [(3, .int (x_8 + 1)), (2, .int (x_9 + 0)), (0, .ref (ad 0)), (1, .int a1)]) hx hb dX0_smokes_77 hl (k := 3) rfl rfl (by decide) rfl (fun ls hl => ?_)
            refine lv_goto (tgt := 18) hx hb dX0_smokes_80 (by decide) ?_
            cases hf
            exact ih_11 _ _ _ _ _ _ _ _ _ hc_15 hP hD hS (lv_sub hl [2, 3, 0, 1] rfl) kx_12
          · have hf := (if_pos c_26).symm.trans hf
            refine lv_iconst (v := 1) hx hb dX0_smokes_70 (by decide) ?_
            refine lv_goto (tgt := 75) hx hb dX0_smokes_71 (by decide) ?_
            refine lv_iadd hx hb dX0_smokes_75 ?_
            refine lv_istore_n (lv' := [(2, .int (x_9 + 1)), (0, .ref (ad 0)), (1, .int a1), (3, .int x_8)]) hx hb dX0_smokes_76 rfl hl (by decide) rfl (fun ls hl => ?_)
            refine lv_iinc (v := x_8 + 1) (lv' := [(3, .int (x_8 + 1)), (2, .int (x_9 + 1)), (0, .ref (ad 0)), (1, .int a1)]) hx hb dX0_smokes_77 hl (k := 3) rfl rfl (by decide) rfl (fun ls hl => ?_)
            refine lv_goto (tgt := 18) hx hb dX0_smokes_80 (by decide) ?_
            cases hf
            exact ih_11 _ _ _ _ _ _ _ _ _ hc_15 hP hD hS (lv_sub hl [2, 3, 0, 1] rfl) kx_12
    obtain ⟨x_28, x_29, S_30, ho, hf⟩ := sm_b3_e hf
    refine L_16 FU 0 0 S_4 x_28 x_29 S_30 H locs ls ho hP hD hS (lv_sub hl [2, 3, 0, 1] rfl) ?_
    intro H locs ls hP hD hS hl
    refine lv_iload_n hx hb dX0_smokes_83 rfl (lv_at hl 3 rfl) ?_
    have hf := Option.some.inj hf
    rw [← hQ]
    have hf := Prod.mk.inj hf
    exact W.iret (v := x_29) hx hb hr (fun t ht hW => ⟨⟨_, (), rfl, hf.2, by rw [ht, ← hf.1]; exact hP, by rw [← hf.1]; exact hD⟩, hS.F ht⟩) hS.2.2 dX0_smokes_84
  · have hf := (if_pos c_3).symm.trans hf
    refine lv_iconst (v := (-1)) hx hb dX0_smokes_8 (by decide) ?_
    have hf := Option.some.inj hf
    rw [← hQ]
    have hf := Prod.mk.inj hf
    exact W.iret (v := (-1)) hx hb hr (fun t ht hW => ⟨⟨_, (), rfl, hf.2, by rw [ht, ← hf.1]; exact hP, by rw [← hf.1]; exact hD⟩, hS.F ht⟩) hS.2.2 dX0_smokes_9
abbrev rX0_word : Room := { frames := 1, cells := 0, slots := 0, locals := 22 }
set_option maxHeartbeats 4000000 in
theorem wX0_word (l : Launch) (g : GG) (ad : Nat → Nat) (S : XS) (a1 : Int32) (rf : Int32) (hf : fX0_word S a1 = some rf) : Met l yX0_word (ws_ yX0_word cX0_word 2 (some .int)) rX0_word (va_Pc [.ref (ad 0), .int a1] (fun Ux => PP g (WX g ad S) Ux.heap ∧ EV g Ux)) (vp_Si (fun y => y = rf)) 0 0 (fun _ => False) := by
  refine sm_st (by decide) ?_
  intro p e s m args below meth c hx hb hr hlocks hml hown hnm hts hv
  obtain ⟨hargs, hP, hE⟩ := hv
  obtain ⟨hK, hN⟩ := id hE
  have hown : s.vm.findClass RX0 = some m.cls := hown
  refine sm_en _ (Nat.le_of_ble_eq_true rfl) hargs (fun ls hl => ?_)
  have hl : lv_has ls 2 [(0, .ref (ad 0)), (1, .int a1)] := hl
  generalize hQ : MQ below _ args s _ _ _ = Q
  unfold fX0_word at hf
  refine lv_iload_n hx hb dX0_word_0 rfl (lv_at hl 1 rfl) ?_
  refine lv_iconst (v := 0) hx hb dX0_word_1 (by decide) ?_
  refine lv_aload_n hx hb dX0_word_2 rfl (lv_at hl 0 rfl) ?_
  refine va_get (D := (g.1, g.2.1)) (ci := 0) (v := .ref (ad 29)) (C := RX0) (T := TX0) (N := 20) hx hb hts in_X0 hown hK hP 0 rfl rfl 1 (by decide) (hts _ q271) (fun _ h9 => h9) rfl dX0_word_3 ?_
  refine va_getN (D := (g.1, g.2.1)) (ci := 2) (v := .int ((S.2.2.1 0).1 6)) (C := RX2) (T := TX2) (N := 7) hx hb hts in_X2 hown hK hP 29 rfl rfl 6 (by decide) (va_Nw.use rfl (hN _ q174 rfl)) (fun _ h9 => h9) rfl dX0_word_6 ?_
  refine lv_iconst (v := 1) hx hb dX0_word_9 (by decide) ?_
  refine lv_isub hx hb dX0_word_10 ?_
  refine vp_callSi (W.runS (As := [.int a1, .int 0, .int (((S.2.2.1 0).1 6) - 1)]) (rest := []) ⟨hx, hb, hml, hown, hts⟩ (wX0_in l a1 0 (((S.2.2.1 0).1 6) - 1) (fX0_in a1 0 (((S.2.2.1 0).1 6) - 1)) rfl) (va_cwS 3 hts (lw_S q343 q344 q60 q345) rfl rfl rfl (by decide +kernel) ⟨Nat.le_of_ble_eq_true rfl, Nat.le_of_ble_eq_true rfl⟩) (sm_ps) rfl rfl hl.1 rfl (lv_room (Nat.le_of_ble_eq_true rfl)) dX0_word_11 ⟨Nat.le_of_ble_eq_true rfl, Nat.le_of_ble_eq_true rfl⟩) (fun r_2 er_1 => ?_)
  have er_1 := er_1.symm
  subst er_1
  refine lv_if_eq (tgt := 29) hx hb dX0_word_14 (by decide) (fun c_3 => ?_) (fun c_3 => ?_)
  · have hf := (if_pos c_3).symm.trans hf
    refine lv_iconst (v := (-1)) hx hb dX0_word_29 (by decide) ?_
    have hf := Option.some.inj hf
    rw [← hQ]
    exact W.iret (v := (-1)) hx hb hr (fun t ht hW => ⟨_, rfl, hf, ht⟩) (fun _ h => by cases h) dX0_word_30
  · have hf := (if_neg c_3).symm.trans hf
    refine lv_aload_n hx hb dX0_word_17 rfl (lv_at hl 0 rfl) ?_
    refine va_get (D := (g.1, g.2.1)) (ci := 0) (v := .ref (ad 29)) (C := RX0) (T := TX0) (N := 20) hx hb hts in_X0 hown hK hP 0 rfl rfl 1 (by decide) (hts _ q271) (fun _ h9 => h9) rfl dX0_word_18 ?_
    refine va_getN (D := (g.1, g.2.1)) (ci := 2) (v := .ref (ad 32)) (C := RX2) (T := TX2) (N := 7) hx hb hts in_X2 hown hK hP 29 rfl rfl 5 (by decide) (va_Nw.use rfl (hN _ q172 rfl)) (fun _ h9 => h9) rfl dX0_word_21 ?_
    refine lv_iload_n hx hb dX0_word_24 rfl (lv_at hl 1 rfl) ?_
    obtain ⟨hg, hf⟩ := sm_gd_e hf
    refine va_iald hx hb hK hP 32 0 rfl rfl (sm_in hg) dX0_word_25 ?_
    refine lv_goto (tgt := 30) hx hb dX0_word_26 (by decide) ?_
    have hf := Option.some.inj hf
    rw [← hQ]
    exact W.iret (v := (S.2.2.1 0).2 5 a1.toNatClampNeg) hx hb hr (fun t ht hW => ⟨_, rfl, hf, ht⟩) (fun _ h => by cases h) dX0_word_30
abbrev rX0_brown : Room := { frames := 2, cells := 0, slots := 0, locals := 60 }
set_option maxHeartbeats 4000000 in
theorem wX0_brown (l : Launch) (g : GG) (ad : Nat → Nat) (S : XS) (a1 : Int32) (Sf : XS) (rf : Int32) (hf : fX0_brown S a1 = some (Sf, rf)) : Met l yX0_brown (ws_ yX0_brown cX0_brown 2 (some .int)) rX0_brown (va_Pc [.ref (ad 0), .int a1] (fun Ux => PP g (WX g ad S) Ux.heap ∧ EV g Ux ∧ va_D (AX ad) (WX g ad S))) (va_Qi (fun y (_ : Unit) => y = rf) (fun _ t => PP g (WX g ad Sf) t.heap ∧ va_D (AX ad) (WX g ad Sf)) (AX ad)) 0 0 (AX ad) := by
  refine sm_st (by decide) ?_
  intro p e s m args below meth c hx hb hr hlocks hml hown hnm hts hv
  obtain ⟨hargs, hP, hE, hD⟩ := hv
  obtain ⟨hK, hN⟩ := id hE
  have hS : va_S (AX ad) s.heap s.heap [] := va_S.rf
  have hown : s.vm.findClass RX0 = some m.cls := hown
  refine sm_en _ (Nat.le_of_ble_eq_true rfl) hargs (fun ls hl => ?_)
  have hl : lv_has ls 2 [(0, .ref (ad 0)), (1, .int a1)] := hl
  generalize hQ : MQ below _ args s _ _ _ = Q
  unfold fX0_brown at hf
  refine lv_aload_n hx hb dX0_brown_0 rfl (lv_at hl 0 rfl) ?_
  refine lv_iload_n hx hb dX0_brown_1 rfl (lv_at hl 1 rfl) ?_
  refine vp_callSi (W.runV (As := [.int a1]) (rest := []) ⟨hx, hb, hml, hown, hts⟩ (wX0_isClerk l g ad S a1 (fX0_isClerk S a1) rfl) (cwV 1 hts (lw_V q588 q590 qs8 q60 q591) rfl rfl rfl (by decide +kernel) ⟨Nat.le_of_ble_eq_true rfl, Nat.le_of_ble_eq_true rfl⟩) (sm_pv hE hP (va_recv hK hP (ci := 0) (q0 := 0) rfl rfl)) rfl rfl hl.1 rfl (lv_room (Nat.le_of_ble_eq_true rfl)) dX0_brown_2 ⟨Nat.le_of_ble_eq_true rfl, Nat.le_of_ble_eq_true rfl⟩) (fun r_2 er_1 => ?_)
  have er_1 := er_1.symm
  subst er_1
  refine lv_if_ne (tgt := 10) hx hb dX0_brown_5 (by decide) (fun c_3 => ?_) (fun c_3 => ?_)
  · have hf := (if_neg c_3).symm.trans hf
    refine lv_aload_n hx hb dX0_brown_10 rfl (lv_at hl 0 rfl) ?_
    refine va_get (D := (g.1, g.2.1)) (ci := 0) (v := .ref (ad 29)) (C := RX0) (T := TX0) (N := 20) hx hb hts in_X0 hown hK hP 0 rfl rfl 1 (by decide) (hts _ q271) (fun _ h9 => h9) rfl dX0_brown_11 ?_
    refine va_getN (D := (g.1, g.2.1)) (ci := 2) (v := .int ((S.2.2.1 0).1 6)) (C := RX2) (T := TX2) (N := 7) hx hb hts in_X2 hown hK hP 29 rfl rfl 6 (by decide) (va_Nw.use rfl (hN _ q174 rfl)) (fun _ h9 => h9) rfl dX0_brown_14 ?_
    refine lv_if_eq (tgt := 41) hx hb dX0_brown_17 (by decide) (fun c_4 => ?_) (fun c_4 => ?_)
    · have hf := (if_pos c_4).symm.trans hf
      refine lv_bipush (v := (-2)) hx hb dX0_brown_41 (by decide) ?_
      have hf := Option.some.inj hf
      rw [← hQ]
      have hf := Prod.mk.inj hf
      exact W.iret (v := (-2)) hx hb hr (fun t ht hW => ⟨⟨_, (), rfl, hf.2, by rw [ht, ← hf.1]; exact hP, by rw [← hf.1]; exact hD⟩, hS.F ht⟩) hS.2.2 dX0_brown_43
    · have hf := (if_neg c_4).symm.trans hf
      refine lv_aload_n hx hb dX0_brown_20 rfl (lv_at hl 0 rfl) ?_
      refine va_get (D := (g.1, g.2.1)) (ci := 0) (v := .int (S.1 12)) (C := RX0) (T := TX0) (N := 20) hx hb hts in_X0 hown hK hP 0 rfl rfl 12 (by decide) (hts _ q284) (fun _ h9 => h9) rfl dX0_brown_21 ?_
      obtain ⟨q_9, hf, hq_6⟩ := sm_r_e hf
      suffices hj_5 : ∀ (ls : Array Slot), q_9 = Sum.inl () → lv_has ls 2 [(0, .ref (ad 0)), (1, .int a1)] → W p l e rX0_brown s m args below meth c s.heap [] 0 0 Q (F0 m 44 ls []) from by
        refine lv_if_le (tgt := 44) hx hb dX0_brown_24 (by decide) (fun c_7 => ?_) (fun c_7 => ?_)
        · have hf := (if_pos c_7).symm.trans hf
          cases hf
          exact hj_5 _ rfl (lv_sub hl [0, 1] rfl)
        · have hf := (if_neg c_7).symm.trans hf
          refine lv_aload_n hx hb dX0_brown_27 rfl (lv_at hl 0 rfl) ?_
          refine va_get (D := (g.1, g.2.1)) (ci := 0) (v := .ref (ad 29)) (C := RX0) (T := TX0) (N := 20) hx hb hts in_X0 hown hK hP 0 rfl rfl 1 (by decide) (hts _ q271) (fun _ h9 => h9) rfl dX0_brown_28 ?_
          refine va_getN (D := (g.1, g.2.1)) (ci := 2) (v := .int ((S.2.2.1 0).1 6)) (C := RX2) (T := TX2) (N := 7) hx hb hts in_X2 hown hK hP 29 rfl rfl 6 (by decide) (va_Nw.use rfl (hN _ q174 rfl)) (fun _ h9 => h9) rfl dX0_brown_31 ?_
          refine lv_aload_n hx hb dX0_brown_34 rfl (lv_at hl 0 rfl) ?_
          refine va_get (D := (g.1, g.2.1)) (ci := 0) (v := .int (S.1 13)) (C := RX0) (T := TX0) (N := 20) hx hb hts in_X0 hown hK hP 0 rfl rfl 13 (by decide) (hts _ q285) (fun _ h9 => h9) rfl dX0_brown_35 ?_
          refine lv_icmp_eq (tgt := 44) hx hb dX0_brown_38 (by decide) (fun c_8 => ?_) (fun c_8 => ?_)
          · have hf := (if_pos c_8).symm.trans hf
            cases hf
            exact hj_5 _ rfl (lv_sub hl [0, 1] rfl)
          · have hf := (if_neg c_8).symm.trans hf
            refine lv_bipush (v := (-2)) hx hb dX0_brown_41 (by decide) ?_
            cases hf
            have hf := hq_6
            dsimp only [Sum.elim_inr] at hf
            have hf := Option.some.inj hf
            rw [← hQ]
            have hf := Prod.mk.inj hf
            exact W.iret (v := (-2)) hx hb hr (fun t ht hW => ⟨⟨_, (), rfl, hf.2, by rw [ht, ← hf.1]; exact hP, by rw [← hf.1]; exact hD⟩, hS.F ht⟩) hS.2.2 dX0_brown_43
      intro ls eq_ hl
      subst eq_
      have hf := hq_6
      dsimp only [Sum.elim_inl, sm_u1] at hf
      refine lv_aload_n hx hb dX0_brown_44 rfl (lv_at hl 0 rfl) ?_
      refine va_get (D := (g.1, g.2.1)) (ci := 0) (v := .int (S.1 12)) (C := RX0) (T := TX0) (N := 20) hx hb hts in_X0 hown hK hP 0 rfl rfl 12 (by decide) (hts _ q284) (fun _ h9 => h9) rfl dX0_brown_45 ?_
      refine lv_iconst (v := 4) hx hb dX0_brown_48 (by decide) ?_
      refine lv_icmp_ne (tgt := 55) hx hb dX0_brown_49 (by decide) (fun c_10 => ?_) (fun c_10 => ?_)
      · have hf := (if_neg c_10).symm.trans hf
        refine lv_aload_n hx hb dX0_brown_55 rfl (lv_at hl 0 rfl) ?_
        refine va_get (D := (g.1, g.2.1)) (ci := 0) (v := .ref (ad 29)) (C := RX0) (T := TX0) (N := 20) hx hb hts in_X0 hown hK hP 0 rfl rfl 1 (by decide) (hts _ q271) (fun _ h9 => h9) rfl dX0_brown_56 ?_
        refine va_getN (D := (g.1, g.2.1)) (ci := 2) (v := .ref (ad 32)) (C := RX2) (T := TX2) (N := 7) hx hb hts in_X2 hown hK hP 29 rfl rfl 5 (by decide) (va_Nw.use rfl (hN _ q172 rfl)) (fun _ h9 => h9) rfl dX0_brown_59 ?_
        refine lv_iconst (v := 0) hx hb dX0_brown_62 (by decide) ?_
        refine lv_aload_n hx hb dX0_brown_63 rfl (lv_at hl 0 rfl) ?_
        refine va_get (D := (g.1, g.2.1)) (ci := 0) (v := .ref (ad 11)) (C := RX0) (T := TX0) (N := 20) hx hb hts in_X0 hown hK hP 0 rfl rfl 10 (by decide) (hts _ q282) (fun _ h9 => h9) rfl dX0_brown_64 ?_
        refine lv_aload_n hx hb dX0_brown_67 rfl (lv_at hl 0 rfl) ?_
        refine va_get (D := (g.1, g.2.1)) (ci := 0) (v := .int (S.1 12)) (C := RX0) (T := TX0) (N := 20) hx hb hts in_X0 hown hK hP 0 rfl rfl 12 (by decide) (hts _ q284) (fun _ h9 => h9) rfl dX0_brown_68 ?_
        obtain ⟨hg, hf⟩ := sm_gd_e hf
        have hi_11 := sm_lt_in (sm_in hg)
        refine sm_aldA hx hb hK hP 11 6 rfl rfl (sm_in hg) dX0_brown_71 ?_
        refine lv_iconst (v := 0) hx hb dX0_brown_72 (by decide) ?_
        refine lv_iconst (v := 5) hx hb dX0_brown_73 (by decide) ?_
        refine sm_copyi (SP := 0) (DP := 0) (N := 5) hx hb (hml.trans hl.1.symm) hown (hts _ q620) (hts _ q622) (hts _ q621) (hts _ q82) hK hP hD hS 32 (12 + ((S.1 12).toNatClampNeg)) 0 0 rfl (sm_brow hi_11) rfl rfl rfl rfl rfl rfl (by decide) (by decide) (by decide) (by decide) (by decide) (fun _ _ => rfl) (Nat.le_of_ble_eq_true rfl) (Nat.le_of_ble_eq_true rfl) dX0_brown_74 (fun H locs hP hD hS => ?_)
        obtain ⟨S_12, eS_12, hf⟩ := sm_lt_e hf
        have hP : PP g (WX g ad S_12) H := by rw [eS_12]; exact sm_brwP hi_11 hP
        have hD : va_D (AX ad) (WX g ad S_12) := by rw [eS_12]; exact sm_brwD hi_11 hD
        refine lv_aload_n hx hb dX0_brown_77 rfl (lv_at hl 0 rfl) ?_
        refine va_get (D := (g.1, g.2.1)) (ci := 0) (v := .ref (ad 16)) (C := RX0) (T := TX0) (N := 20) hx hb hts in_X0 hown hK hP 0 rfl rfl 11 (by decide) (hts _ q283) (fun _ h9 => h9) rfl dX0_brown_78 ?_
        refine lv_aload_n hx hb dX0_brown_81 rfl (lv_at hl 0 rfl) ?_
        refine va_get (D := (g.1, g.2.1)) (ci := 0) (v := .int (S_12.1 12)) (C := RX0) (T := TX0) (N := 20) hx hb hts in_X0 hown hK hP 0 rfl rfl 12 (by decide) (hts _ q284) (fun _ h9 => h9) rfl dX0_brown_82 ?_
        refine lv_iload_n hx hb dX0_brown_85 rfl (lv_at hl 1 rfl) ?_
        obtain ⟨hg, hf⟩ := sm_gd_e hf
        refine va_iast (i := S_12.1 12) (x := a1) hx hb hK hP hD hS 16 0 rfl rfl (sm_in hg) dX0_brown_86 (fun H locs hP hD hS => ?_)
        obtain ⟨S_13, eS_13, hf⟩ := sm_lt_e hf
        have hP : PP g (WX g ad S_13) H := by rw [eS_13]; exact pxr11 hP
        have hD : va_D (AX ad) (WX g ad S_13) := by rw [eS_13]; exact dxr11 hD
        refine lv_aload_n hx hb dX0_brown_87 rfl (lv_at hl 0 rfl) ?_
        refine lv_aload_n hx hb dX0_brown_88 rfl (lv_at hl 0 rfl) ?_
        refine va_get (D := (g.1, g.2.1)) (ci := 0) (v := .ref (ad 29)) (C := RX0) (T := TX0) (N := 20) hx hb hts in_X0 hown hK hP 0 rfl rfl 1 (by decide) (hts _ q271) (fun _ h9 => h9) rfl dX0_brown_89 ?_
        refine va_getN (D := (g.1, g.2.1)) (ci := 2) (v := .int ((S_13.2.2.1 0).1 6)) (C := RX2) (T := TX2) (N := 7) hx hb hts in_X2 hown hK hP 29 rfl rfl 6 (by decide) (va_Nw.use rfl (hN _ q174 rfl)) (fun _ h9 => h9) rfl dX0_brown_92 ?_
        refine va_put (D := (g.1, g.2.1)) (ci := 0) (v := .int ((S_13.2.2.1 0).1 6)) (ty := .int) (C := RX0) (T := TX0) (N := 20) hx hb hts in_X0 tyX0 tyX0_ok nmX0 hown hK hP hD hS 0 rfl rfl 13 (by decide) (hts _ q285) (fun _ h9 => h9) rfl (by decide +kernel) rfl rfl (Nat.le_of_ble_eq_true rfl) dX0_brown_95 (fun H locs hP hD hS => ?_)
        obtain ⟨S_14, eS_14, hf⟩ := sm_lt_e hf
        have hP : PP g (WX g ad S_14) H := by rw [eS_14]; exact pxf13 hP
        have hD : va_D (AX ad) (WX g ad S_14) := by rw [eS_14]; exact dxf13 hD
        refine lv_aload_n hx hb dX0_brown_98 rfl (lv_at hl 0 rfl) ?_
        refine lv_dup hx hb dX0_brown_99 rfl ?_
        refine va_get (D := (g.1, g.2.1)) (ci := 0) (v := .int (S_14.1 12)) (C := RX0) (T := TX0) (N := 20) hx hb hts in_X0 hown hK hP 0 rfl rfl 12 (by decide) (hts _ q284) (fun _ h9 => h9) rfl dX0_brown_100 ?_
        refine lv_iconst (v := 1) hx hb dX0_brown_103 (by decide) ?_
        refine lv_iadd hx hb dX0_brown_104 ?_
        refine va_put (D := (g.1, g.2.1)) (ci := 0) (v := .int ((S_14.1 12) + 1)) (ty := .int) (C := RX0) (T := TX0) (N := 20) hx hb hts in_X0 tyX0 tyX0_ok nmX0 hown hK hP hD hS 0 rfl rfl 12 (by decide) (hts _ q284) (fun _ h9 => h9) rfl (by decide +kernel) rfl rfl (Nat.le_of_ble_eq_true rfl) dX0_brown_105 (fun H locs hP hD hS => ?_)
        obtain ⟨S_15, eS_15, hf⟩ := sm_lt_e hf
        have hP : PP g (WX g ad S_15) H := by rw [eS_15]; exact pxf12 hP
        have hD : va_D (AX ad) (WX g ad S_15) := by rw [eS_15]; exact dxf12 hD
        refine lv_aload_n hx hb dX0_brown_108 rfl (lv_at hl 0 rfl) ?_
        refine va_get (D := (g.1, g.2.1)) (ci := 0) (v := .int (S_15.1 12)) (C := RX0) (T := TX0) (N := 20) hx hb hts in_X0 hown hK hP 0 rfl rfl 12 (by decide) (hts _ q284) (fun _ h9 => h9) rfl dX0_brown_109 ?_
        have hf := Option.some.inj hf
        rw [← hQ]
        have hf := Prod.mk.inj hf
        exact W.iret (v := S_15.1 12) hx hb hr (fun t ht hW => ⟨⟨_, (), rfl, hf.2, by rw [ht, ← hf.1]; exact hP, by rw [← hf.1]; exact hD⟩, hS.F ht⟩) hS.2.2 dX0_brown_112
      · have hf := (if_pos c_10).symm.trans hf
        refine lv_bipush (v := (-3)) hx hb dX0_brown_52 (by decide) ?_
        have hf := Option.some.inj hf
        rw [← hQ]
        have hf := Prod.mk.inj hf
        exact W.iret (v := (-3)) hx hb hr (fun t ht hW => ⟨⟨_, (), rfl, hf.2, by rw [ht, ← hf.1]; exact hP, by rw [← hf.1]; exact hD⟩, hS.F ht⟩) hS.2.2 dX0_brown_54
  · have hf := (if_pos c_3).symm.trans hf
    refine lv_iconst (v := (-1)) hx hb dX0_brown_8 (by decide) ?_
    have hf := Option.some.inj hf
    rw [← hQ]
    have hf := Prod.mk.inj hf
    exact W.iret (v := (-1)) hx hb hr (fun t ht hW => ⟨⟨_, (), rfl, hf.2, by rw [ht, ← hf.1]; exact hP, by rw [← hf.1]; exact hD⟩, hS.F ht⟩) hS.2.2 dX0_brown_9
abbrev rX0_burn : Room := { frames := 0, cells := 0, slots := 0, locals := 0 }
set_option maxHeartbeats 4000000 in
theorem wX0_burn (l : Launch) (g : GG) (ad : Nat → Nat) (S : XS) (Sf : XS) (rf : Int32) (hf : fX0_burn S = some (Sf, rf)) : Met l yX0_burn (ws_ yX0_burn cX0_burn 2 (some .int)) rX0_burn (va_Pc [.ref (ad 0)] (fun Ux => PP g (WX g ad S) Ux.heap ∧ EV g Ux ∧ va_D (AX ad) (WX g ad S))) (va_Qi (fun y (_ : Unit) => y = rf) (fun _ t => PP g (WX g ad Sf) t.heap ∧ va_D (AX ad) (WX g ad Sf)) (AX ad)) 0 0 (AX ad) := by
  refine sm_st (by decide) ?_
  intro p e s m args below meth c hx hb hr hlocks hml hown hnm hts hv
  obtain ⟨hargs, hP, hE, hD⟩ := hv
  obtain ⟨hK, hN⟩ := id hE
  have hS : va_S (AX ad) s.heap s.heap [] := va_S.rf
  have hown : s.vm.findClass RX0 = some m.cls := hown
  refine sm_en _ (Nat.le_of_ble_eq_true rfl) hargs (fun ls hl => ?_)
  have hl : lv_has ls 2 [(0, .ref (ad 0))] := hl
  generalize hQ : MQ below _ args s _ _ _ = Q
  unfold fX0_burn at hf
  refine lv_aload_n hx hb dX0_burn_0 rfl (lv_at hl 0 rfl) ?_
  refine va_get (D := (g.1, g.2.1)) (ci := 0) (v := .int (S.1 12)) (C := RX0) (T := TX0) (N := 20) hx hb hts in_X0 hown hK hP 0 rfl rfl 12 (by decide) (hts _ q284) (fun _ h9 => h9) rfl dX0_burn_1 ?_
  refine lv_istore_n (lv' := [(1, .int (S.1 12)), (0, .ref (ad 0))]) hx hb dX0_burn_4 rfl hl (by decide) rfl (fun ls hl => ?_)
  refine lv_aload_n hx hb dX0_burn_5 rfl (lv_at hl 1 rfl) ?_
  refine lv_iconst (v := 0) hx hb dX0_burn_6 (by decide) ?_
  refine va_put (D := (g.1, g.2.1)) (ci := 0) (v := .int 0) (ty := .int) (C := RX0) (T := TX0) (N := 20) hx hb hts in_X0 tyX0 tyX0_ok nmX0 hown hK hP hD hS 0 rfl rfl 12 (by decide) (hts _ q284) (fun _ h9 => h9) rfl (by decide +kernel) rfl rfl (Nat.le_of_ble_eq_true rfl) dX0_burn_7 (fun H locs hP hD hS => ?_)
  obtain ⟨S_1, eS_1, hf⟩ := sm_lt_e hf
  have hP : PP g (WX g ad S_1) H := by rw [eS_1]; exact pxf12 hP
  have hD : va_D (AX ad) (WX g ad S_1) := by rw [eS_1]; exact dxf12 hD
  refine lv_iload_n hx hb dX0_burn_10 rfl (lv_at hl 0 rfl) ?_
  have hf := Option.some.inj hf
  rw [← hQ]
  have hf := Prod.mk.inj hf
  exact W.iret (v := S.1 12) hx hb hr (fun t ht hW => ⟨⟨_, (), rfl, hf.2, by rw [ht, ← hf.1]; exact hP, by rw [← hf.1]; exact hD⟩, hS.F ht⟩) hS.2.2 dX0_burn_11
abbrev rX0_stoodAt : Room := { frames := 1, cells := 0, slots := 0, locals := 22 }
set_option maxHeartbeats 4000000 in
theorem wX0_stoodAt (l : Launch) (g : GG) (ad : Nat → Nat) (S : XS) (a1 : Int32) (rf : Int32) (hf : fX0_stoodAt S a1 = some rf) : Met l yX0_stoodAt (ws_ yX0_stoodAt cX0_stoodAt 6 (some .int)) rX0_stoodAt (va_Pc [.ref (ad 0), .int a1] (fun Ux => PP g (WX g ad S) Ux.heap ∧ EV g Ux)) (vp_Si (fun y => y = rf)) 0 0 (fun _ => False) := by
  refine sm_st (by decide) ?_
  intro p e s m args below meth c hx hb hr hlocks hml hown hnm hts hv
  obtain ⟨hargs, hP, hE⟩ := hv
  obtain ⟨hK, hN⟩ := id hE
  have hown : s.vm.findClass RX0 = some m.cls := hown
  refine sm_en _ (Nat.le_of_ble_eq_true rfl) hargs (fun ls hl => ?_)
  have hl : lv_has ls 6 [(0, .ref (ad 0)), (1, .int a1)] := hl
  generalize hQ : MQ below _ args s _ _ _ = Q
  unfold fX0_stoodAt at hf
  refine lv_iconst (v := 0) hx hb dX0_stoodAt_0 (by decide) ?_
  refine lv_istore_n (lv' := [(2, .int 0), (0, .ref (ad 0)), (1, .int a1)]) hx hb dX0_stoodAt_1 rfl hl (by decide) rfl (fun ls hl => ?_)
  refine lv_iconst (v := 0) hx hb dX0_stoodAt_2 (by decide) ?_
  refine lv_istore_n (lv' := [(3, .int 0), (2, .int 0), (0, .ref (ad 0)), (1, .int a1)]) hx hb dX0_stoodAt_3 rfl hl (by decide) rfl (fun ls hl => ?_)
  have L_8 : ∀ (n : Nat) (x_1 : Int32) (x_2 : Int32) (o_9 : Int32) (o_10 : Int32) (ls : Array Slot), sm_lp (fun q => fX0_stoodAt_4 S a1 q.1 q.2) n (x_1, x_2) = some (o_9, o_10) → lv_has ls 6 [(0, .ref (ad 0)), (1, .int a1), (3, .int x_1), (2, .int x_2)] → (∀ (ls : Array Slot), lv_has ls 6 [(0, .ref (ad 0)), (1, .int a1), (3, .int o_9), (2, .int o_10)] → W p l e rX0_stoodAt s m args below meth c s.heap [] 0 0 Q (F0 m 91 ls [])) → W p l e rX0_stoodAt s m args below meth c s.heap [] 0 0 Q (F0 m 4 ls []) := by
    intro n
    induction n with
    | zero =>
      intro _ _ _ _ _ hf
      cases hf
    | succ n ih_3 =>
      intro x_1 x_2 o_9 o_10 ls hf hl kx_4
      obtain ⟨q, hf, hc_7⟩ := sm_bnd hf
      have hf : fX0_stoodAt_4 S a1 x_1 x_2 = some q := hf
      unfold fX0_stoodAt_4 at hf
      refine lv_iload_n hx hb dX0_stoodAt_4 rfl (lv_at hl 2 rfl) ?_
      refine lv_bipush (v := 10) hx hb dX0_stoodAt_5 (by decide) ?_
      refine lv_icmp_ge (tgt := 91) hx hb dX0_stoodAt_7 (by decide) (fun c_11 => ?_) (fun c_11 => ?_)
      · have hf := (if_pos c_11).symm.trans hf
        cases hf
        have hc_7 : some (x_1, x_2) = some (o_9, o_10) := hc_7
        cases hc_7
        exact kx_4 _ (lv_sub hl [0, 1, 2, 3] rfl)
      · have hf := (if_neg c_11).symm.trans hf
        refine lv_iconst (v := 1) hx hb dX0_stoodAt_10 (by decide) ?_
        refine lv_istore (lv' := [(4, .int 1), (0, .ref (ad 0)), (1, .int a1), (3, .int x_1), (2, .int x_2)]) hx hb dX0_stoodAt_11 hl (by decide) rfl (fun ls hl => ?_)
        refine lv_iconst (v := 0) hx hb dX0_stoodAt_13 (by decide) ?_
        refine lv_istore (lv' := [(5, .int 0), (4, .int 1), (0, .ref (ad 0)), (1, .int a1), (3, .int x_1), (2, .int x_2)]) hx hb dX0_stoodAt_14 hl (by decide) rfl (fun ls hl => ?_)
        have L_19 : ∀ (n : Nat) (x_12 : Int32) (x_13 : Int32) (o_20 : Int32) (o_21 : Int32) (ls : Array Slot), sm_lp (fun q => fX0_stoodAt_16 S a1 x_1 q.1 q.2) n (x_12, x_13) = some (o_20, o_21) → lv_has ls 6 [(0, .ref (ad 0)), (1, .int a1), (3, .int x_1), (2, .int x_2), (5, .int x_12), (4, .int x_13)] → (∀ (ls : Array Slot), lv_has ls 6 [(0, .ref (ad 0)), (1, .int a1), (3, .int x_1), (2, .int x_2), (5, .int o_20), (4, .int o_21)] → W p l e rX0_stoodAt s m args below meth c s.heap [] 0 0 Q (F0 m 70 ls [])) → W p l e rX0_stoodAt s m args below meth c s.heap [] 0 0 Q (F0 m 16 ls []) := by
          intro n
          induction n with
          | zero =>
            intro _ _ _ _ _ hf
            cases hf
          | succ n ih_14 =>
            intro x_12 x_13 o_20 o_21 ls hf hl kx_15
            obtain ⟨q, hf, hc_18⟩ := sm_bnd hf
            have hf : fX0_stoodAt_16 S a1 x_1 x_12 x_13 = some q := hf
            unfold fX0_stoodAt_16 at hf
            refine lv_iload hx hb dX0_stoodAt_16 (lv_at hl 4 rfl) ?_
            refine lv_aload_n hx hb dX0_stoodAt_18 rfl (lv_at hl 0 rfl) ?_
            refine va_get (D := (g.1, g.2.1)) (ci := 0) (v := .int (S.1 12)) (C := RX0) (T := TX0) (N := 20) hx hb hts in_X0 hown hK hP 0 rfl rfl 12 (by decide) (hts _ q284) (fun _ h9 => h9) rfl dX0_stoodAt_19 ?_
            refine lv_icmp_ge (tgt := 70) hx hb dX0_stoodAt_22 (by decide) (fun c_22 => ?_) (fun c_22 => ?_)
            · have hf := (if_pos c_22).symm.trans hf
              cases hf
              have hc_18 : some (x_12, x_13) = some (o_20, o_21) := hc_18
              cases hc_18
              exact kx_15 _ (lv_sub hl [0, 1, 2, 3, 4, 5] rfl)
            · have hf := (if_neg c_22).symm.trans hf
              refine lv_iload hx hb dX0_stoodAt_25 (lv_at hl 5 rfl) ?_
              refine lv_if_eq (tgt := 61) hx hb dX0_stoodAt_27 (by decide) (fun c_23 => ?_) (fun c_23 => ?_)
              · have hf := (if_pos c_23).symm.trans hf
                refine lv_iconst (v := 0) hx hb dX0_stoodAt_61 (by decide) ?_
                refine lv_istore (lv' := [(4, .int 0), (0, .ref (ad 0)), (1, .int a1), (3, .int x_1), (2, .int x_2), (5, .int x_12)]) hx hb dX0_stoodAt_62 hl (by decide) rfl (fun ls hl => ?_)
                refine lv_iinc (v := x_12 + 1) (lv' := [(5, .int (x_12 + 1)), (4, .int 0), (0, .ref (ad 0)), (1, .int a1), (3, .int x_1), (2, .int x_2)]) hx hb dX0_stoodAt_64 hl (k := 5) rfl rfl (by decide) rfl (fun ls hl => ?_)
                refine lv_goto (tgt := 16) hx hb dX0_stoodAt_67 (by decide) ?_
                cases hf
                exact ih_14 _ _ _ _ _ hc_18 (lv_sub hl [2, 3, 4, 5, 0, 1] rfl) kx_15
              · have hf := (if_neg c_23).symm.trans hf
                refine lv_aload_n hx hb dX0_stoodAt_30 rfl (lv_at hl 0 rfl) ?_
                refine va_get (D := (g.1, g.2.1)) (ci := 0) (v := .ref (ad 1)) (C := RX0) (T := TX0) (N := 20) hx hb hts in_X0 hown hK hP 0 rfl rfl 0 (by decide) (hts _ q269) (fun _ h9 => h9) rfl dX0_stoodAt_31 ?_
                refine lv_aload_n hx hb dX0_stoodAt_34 rfl (lv_at hl 0 rfl) ?_
                refine va_get (D := (g.1, g.2.1)) (ci := 0) (v := .ref (ad 16)) (C := RX0) (T := TX0) (N := 20) hx hb hts in_X0 hown hK hP 0 rfl rfl 11 (by decide) (hts _ q283) (fun _ h9 => h9) rfl dX0_stoodAt_35 ?_
                refine lv_iload hx hb dX0_stoodAt_38 (lv_at hl 4 rfl) ?_
                obtain ⟨hg, hf⟩ := sm_gd_e hf
                refine va_iald hx hb hK hP 16 0 rfl rfl (sm_in hg) dX0_stoodAt_40 ?_
                refine lv_iload_n hx hb dX0_stoodAt_41 rfl (lv_at hl 2 rfl) ?_
                obtain ⟨r_24, h_25, hf⟩ := sm_b1_e hf
                refine vp_callSi (W.runV (As := [.int (S.2.1 11 x_12.toNatClampNeg), .int x_1]) (rest := []) ⟨hx, hb, hml, hown, hts⟩ (wX1_copied l g (bd ad) S.2.2.2.2.1 (S.2.1 11 x_12.toNatClampNeg) x_1 r_24 h_25) (cwV 2 hts (lw_V q741 q742 q743 q61 q744) rfl rfl rfl (by decide +kernel) ⟨Nat.le_of_ble_eq_true rfl, Nat.le_of_ble_eq_true rfl⟩) (sm_pv hE (sm_pB hP) (va_recv hK (sm_pB hP) (ci := 1) (q0 := 0) rfl rfl)) rfl rfl hl.1 rfl (lv_room (Nat.le_of_ble_eq_true rfl)) dX0_stoodAt_42 ⟨Nat.le_of_ble_eq_true rfl, Nat.le_of_ble_eq_true rfl⟩) (fun r_27 er_26 => ?_)
                have er_26 := er_26.symm
                subst er_26
                refine lv_aload_n hx hb dX0_stoodAt_45 rfl (lv_at hl 0 rfl) ?_
                refine va_get (D := (g.1, g.2.1)) (ci := 0) (v := .ref (ad 11)) (C := RX0) (T := TX0) (N := 20) hx hb hts in_X0 hown hK hP 0 rfl rfl 10 (by decide) (hts _ q282) (fun _ h9 => h9) rfl dX0_stoodAt_46 ?_
                refine lv_iload hx hb dX0_stoodAt_49 (lv_at hl 4 rfl) ?_
                obtain ⟨hg, hf⟩ := sm_gd_e hf
                have hi_28 := sm_lt_in (sm_in hg)
                refine sm_aldA hx hb hK hP 11 6 rfl rfl (sm_in hg) dX0_stoodAt_51 ?_
                refine lv_iload_n hx hb dX0_stoodAt_52 rfl (lv_at hl 1 rfl) ?_
                obtain ⟨hg, hf⟩ := sm_gd_e hf
                refine va_iald hx hb hK hP (12 + x_12.toNatClampNeg) 0 (sm_brow hi_28) rfl (sm_in hg) dX0_stoodAt_53 ?_
                refine lv_icmp_ne (tgt := 61) hx hb dX0_stoodAt_54 (by decide) (fun c_29 => ?_) (fun c_29 => ?_)
                · have hf := (if_neg c_29).symm.trans hf
                  refine lv_iconst (v := 0) hx hb dX0_stoodAt_61 (by decide) ?_
                  refine lv_istore (lv' := [(4, .int 0), (0, .ref (ad 0)), (1, .int a1), (3, .int x_1), (2, .int x_2), (5, .int x_12)]) hx hb dX0_stoodAt_62 hl (by decide) rfl (fun ls hl => ?_)
                  refine lv_iinc (v := x_12 + 1) (lv' := [(5, .int (x_12 + 1)), (4, .int 0), (0, .ref (ad 0)), (1, .int a1), (3, .int x_1), (2, .int x_2)]) hx hb dX0_stoodAt_64 hl (k := 5) rfl rfl (by decide) rfl (fun ls hl => ?_)
                  refine lv_goto (tgt := 16) hx hb dX0_stoodAt_67 (by decide) ?_
                  cases hf
                  exact ih_14 _ _ _ _ _ hc_18 (lv_sub hl [2, 3, 4, 5, 0, 1] rfl) kx_15
                · have hf := (if_pos c_29).symm.trans hf
                  refine lv_iconst (v := 1) hx hb dX0_stoodAt_57 (by decide) ?_
                  refine lv_goto (tgt := 62) hx hb dX0_stoodAt_58 (by decide) ?_
                  refine lv_istore (lv' := [(4, .int 1), (0, .ref (ad 0)), (1, .int a1), (3, .int x_1), (2, .int x_2), (5, .int x_12)]) hx hb dX0_stoodAt_62 hl (by decide) rfl (fun ls hl => ?_)
                  refine lv_iinc (v := x_12 + 1) (lv' := [(5, .int (x_12 + 1)), (4, .int 1), (0, .ref (ad 0)), (1, .int a1), (3, .int x_1), (2, .int x_2)]) hx hb dX0_stoodAt_64 hl (k := 5) rfl rfl (by decide) rfl (fun ls hl => ?_)
                  refine lv_goto (tgt := 16) hx hb dX0_stoodAt_67 (by decide) ?_
                  cases hf
                  exact ih_14 _ _ _ _ _ hc_18 (lv_sub hl [2, 3, 4, 5, 0, 1] rfl) kx_15
        obtain ⟨x_31, x_32, ho, hf⟩ := sm_b2_e hf
        refine L_19 FU 0 1 x_31 x_32 ls ho (lv_sub hl [2, 3, 4, 5, 0, 1] rfl) ?_
        intro ls hl
        refine lv_iload_n hx hb dX0_stoodAt_70 rfl (lv_at hl 3 rfl) ?_
        refine lv_iload hx hb dX0_stoodAt_71 (lv_at hl 5 rfl) ?_
        refine lv_if_eq (tgt := 82) hx hb dX0_stoodAt_73 (by decide) (fun c_33 => ?_) (fun c_33 => ?_)
        · have hf := (if_pos c_33).symm.trans hf
          refine lv_iconst (v := 0) hx hb dX0_stoodAt_82 (by decide) ?_
          refine lv_ior hx hb dX0_stoodAt_83 ?_
          refine lv_istore_n (lv' := [(2, .int (x_2 ||| 0)), (0, .ref (ad 0)), (1, .int a1), (3, .int x_1), (5, .int x_31), (4, .int x_32)]) hx hb dX0_stoodAt_84 rfl hl (by decide) rfl (fun ls hl => ?_)
          refine lv_iinc (v := x_1 + 1) (lv' := [(3, .int (x_1 + 1)), (2, .int (x_2 ||| 0)), (0, .ref (ad 0)), (1, .int a1), (5, .int x_31), (4, .int x_32)]) hx hb dX0_stoodAt_85 hl (k := 3) rfl rfl (by decide) rfl (fun ls hl => ?_)
          refine lv_goto (tgt := 4) hx hb dX0_stoodAt_88 (by decide) ?_
          cases hf
          exact ih_3 _ _ _ _ _ hc_7 (lv_sub hl [2, 3, 0, 1] rfl) kx_4
        · have hf := (if_neg c_33).symm.trans hf
          refine lv_iconst (v := 1) hx hb dX0_stoodAt_76 (by decide) ?_
          refine lv_iload_n hx hb dX0_stoodAt_77 rfl (lv_at hl 2 rfl) ?_
          refine lv_ishl hx hb dX0_stoodAt_78 ?_
          refine lv_goto (tgt := 83) hx hb dX0_stoodAt_79 (by decide) ?_
          refine lv_ior hx hb dX0_stoodAt_83 ?_
          refine lv_topi (fun x_34 ex_34 => ?_)
          have hf := sm_lt_v hf ex_34
          refine lv_istore_n (lv' := [(2, .int x_34), (0, .ref (ad 0)), (1, .int a1), (3, .int x_1), (5, .int x_31), (4, .int x_32)]) hx hb dX0_stoodAt_84 rfl hl (by decide) rfl (fun ls hl => ?_)
          refine lv_iinc (v := x_1 + 1) (lv' := [(3, .int (x_1 + 1)), (2, .int x_34), (0, .ref (ad 0)), (1, .int a1), (5, .int x_31), (4, .int x_32)]) hx hb dX0_stoodAt_85 hl (k := 3) rfl rfl (by decide) rfl (fun ls hl => ?_)
          refine lv_goto (tgt := 4) hx hb dX0_stoodAt_88 (by decide) ?_
          cases hf
          exact ih_3 _ _ _ _ _ hc_7 (lv_sub hl [2, 3, 0, 1] rfl) kx_4
  obtain ⟨x_36, x_37, ho, hf⟩ := sm_b2_e hf
  refine L_8 FU 0 0 x_36 x_37 ls ho (lv_sub hl [2, 3, 0, 1] rfl) ?_
  intro ls hl
  refine lv_iload_n hx hb dX0_stoodAt_91 rfl (lv_at hl 3 rfl) ?_
  have hf := Option.some.inj hf
  rw [← hQ]
  exact W.iret (v := x_37) hx hb hr (fun t ht hW => ⟨_, rfl, hf, ht⟩) (fun _ h => by cases h) dX0_stoodAt_92
