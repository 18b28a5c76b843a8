/-! SmokedLettersModel, walked: printed by gen/model.py -/
set_option maxRecDepth 100000
abbrev rX9_soonest : Room := { frames := 2, cells := 0, slots := 0, locals := 50 }
set_option maxHeartbeats 4000000 in
theorem wX9_soonest (l : Launch) (g : GG) (ad : Nat → Nat) (S : MS) (a1 : Int32) (Sf : MS) (rf : Int32) (hf : fX9_soonest S a1 = some (Sf, rf)) : Met l yX9_soonest (ws_ yX9_soonest cX9_soonest 5 (some .int)) rX9_soonest (va_Pc [.ref (ad 0), .int a1] (fun U => PP g (WM g ad S) U.heap ∧ EV g U ∧ va_D (AM ad) (WM g ad S))) (va_Qi (fun y (_ : Unit) => y = rf) (fun _ t => PP g (WM g ad Sf) t.heap ∧ va_D (AM ad) (WM g ad Sf)) (AM ad)) 0 0 (AM ad) := by
  refine sm_st (by decide) ?_
  intro p e s m args below meth c hx hb hr hlocks hml hown hnm hts hv
  obtain ⟨hargs, hP, hE, hD⟩ := hv
  obtain ⟨hK, hN⟩ := id hE
  have hS : va_S (AM ad) s.heap s.heap [] := va_S.rf
  have hown : s.vm.findClass RX9 = some m.cls := hown
  refine sm_en _ (Nat.le_of_ble_eq_true rfl) hargs (fun ls hl => ?_)
  have hl : lv_has ls 5 [(0, .ref (ad 0)), (1, .int a1)] := hl
  generalize hQ : MQ below _ args s _ _ _ = Q
  unfold fX9_soonest at hf
  refine lv_iload_n hx hb dX9_soonest_0 rfl (lv_at hl 1 rfl) ?_
  refine lv_bipush (v := (-9)) hx hb dX9_soonest_1 (by decide) ?_
  obtain ⟨q_7, hf, hq_2⟩ := sm_r_e hf
  suffices hj_1 : ∀ (ls : Array Slot), q_7 = Sum.inl () → lv_has ls 5 [(0, .ref (ad 0)), (1, .int a1)] → W p l e rX9_soonest s m args below meth c s.heap [] 0 0 Q (F0 m 16 ls []) from by
    refine lv_icmp_eq (tgt := 16) hx hb dX9_soonest_3 (by decide) (fun c_3 => ?_) (fun c_3 => ?_)
    · have hf := (if_pos c_3).symm.trans hf
      cases hf
      exact hj_1 _ rfl (lv_sub hl [0, 1] rfl)
    · have hf := (if_neg c_3).symm.trans hf
      refine lv_aload_n hx hb dX9_soonest_6 rfl (lv_at hl 0 rfl) ?_
      refine lv_iload_n hx hb dX9_soonest_7 rfl (lv_at hl 1 rfl) ?_
      refine vp_callSi (W.runV (As := [.int a1]) (rest := []) ⟨hx, hb, hml, hown, hts⟩ (wX9_isTraveller l g ad S a1 (fX9_isTraveller S a1) rfl) (cwV 1 hts (lw_V q1029 q1031 qs30 q70 q1032) rfl rfl rfl (by decide +kernel) ⟨Nat.le_of_ble_eq_true rfl, Nat.le_of_ble_eq_true rfl⟩) (sm_pv hE hP (va_recv hK hP (ci := 9) (q0 := 0) rfl rfl)) rfl rfl hl.1 rfl (lv_room (Nat.le_of_ble_eq_true rfl)) dX9_soonest_8 ⟨Nat.le_of_ble_eq_true rfl, Nat.le_of_ble_eq_true rfl⟩) (fun r_5 er_4 => ?_)
      have er_4 := er_4.symm
      subst er_4
      refine lv_if_ne (tgt := 16) hx hb dX9_soonest_11 (by decide) (fun c_6 => ?_) (fun c_6 => ?_)
      · have hf := (if_neg c_6).symm.trans hf
        cases hf
        exact hj_1 _ rfl (lv_sub hl [0, 1] rfl)
      · have hf := (if_pos c_6).symm.trans hf
        refine lv_iconst (v := (-1)) hx hb dX9_soonest_14 (by decide) ?_
        cases hf
        have hf := hq_2
        dsimp only [Sum.elim_inr] at hf
        have hf := Option.some.inj hf
        rw [← hQ]
        have hf := Prod.mk.inj hf
        exact W.iret (v := (-1)) hx hb hr (fun t ht hW => ⟨⟨_, (), rfl, hf.2, by rw [ht, ← hf.1]; exact hP, by rw [← hf.1]; exact hD⟩, hS.F ht⟩) hS.2.2 dX9_soonest_15
  intro ls eq_ hl
  subst eq_
  have hf := hq_2
  dsimp only [Sum.elim_inl, sm_u1] at hf
  refine lv_iconst (v := 0) hx hb dX9_soonest_16 (by decide) ?_
  refine lv_istore_n (lv' := [(2, .int 0), (0, .ref (ad 0)), (1, .int a1)]) hx hb dX9_soonest_17 rfl hl (by decide) rfl (fun ls hl => ?_)
  refine lv_ldc (v := 1000000000) hx hb hown (hts _ q1120) dX9_soonest_18 ?_
  refine lv_istore_n (lv' := [(3, .int 1000000000), (2, .int 0), (0, .ref (ad 0)), (1, .int a1)]) hx hb dX9_soonest_20 rfl hl (by decide) rfl (fun ls hl => ?_)
  refine lv_iconst (v := 0) hx hb dX9_soonest_21 (by decide) ?_
  refine lv_istore (lv' := [(4, .int 0), (3, .int 1000000000), (2, .int 0), (0, .ref (ad 0)), (1, .int a1)]) hx hb dX9_soonest_22 hl (by decide) rfl (fun ls hl => ?_)
  have L_17 : ∀ (n : Nat) (x_8 : Int32) (x_9 : Int32) (x_10 : Int32) (S_11 : MS) (o_18 : Int32) (o_19 : Int32) (o_20 : Int32) (o_21 : MS) (H : Heap) (locs : List Loc) (ls : Array Slot), sm_lp (fun q => fX9_soonest_24 q.1 q.2.1 q.2.2.1 q.2.2.2) n (x_8, x_9, x_10, S_11) = some (o_18, o_19, o_20, o_21) → PP g (WM g ad S_11) H → va_D (AM ad) (WM g ad S_11) → va_S (AM ad) s.heap H locs → lv_has ls 5 [(0, .ref (ad 0)), (1, .int a1), (4, .int x_8), (3, .int x_9), (2, .int x_10)] → (∀ (H : Heap) (locs : List Loc) (ls : Array Slot), PP g (WM g ad o_21) H → va_D (AM ad) (WM g ad o_21) → va_S (AM ad) s.heap H locs → lv_has ls 5 [(0, .ref (ad 0)), (1, .int a1), (4, .int o_18), (3, .int o_19), (2, .int o_20)] → W p l e rX9_soonest s m args below meth c H locs 0 0 Q (F0 m 90 ls [])) → W p l e rX9_soonest s m args below meth c H locs 0 0 Q (F0 m 24 ls []) := by
    intro n
    induction n with
    | zero =>
      intro _ _ _ _ _ _ _ _ _ _ _ hf
      cases hf
    | succ n ih_12 =>
      intro x_8 x_9 x_10 S_11 o_18 o_19 o_20 o_21 H locs ls hf hP hD hS hl kx_13
      obtain ⟨q, hf, hc_16⟩ := sm_bnd hf
      have hf : fX9_soonest_24 x_8 x_9 x_10 S_11 = some q := hf
      unfold fX9_soonest_24 at hf
      refine lv_iload hx hb dX9_soonest_24 (lv_at hl 2 rfl) ?_
      refine lv_aload_n hx hb dX9_soonest_26 rfl (lv_at hl 0 rfl) ?_
      refine lv_aload_n hx hb dX9_soonest_27 rfl (lv_at hl 0 rfl) ?_
      refine va_get (D := (g.1, g.2.1)) (ci := 9) (v := .int (S_11.1 1)) (C := RX9) (T := TX9) (N := 39) hx hb hts in_X9 hown hK hP 0 rfl rfl 1 (by decide) (hts _ q857) (fun _ h9 => h9) rfl dX9_soonest_28 ?_
      refine lv_aload_n hx hb dX9_soonest_31 rfl (lv_at hl 0 rfl) ?_
      refine va_get (D := (g.1, g.2.1)) (ci := 9) (v := .int (S_11.1 3)) (C := RX9) (T := TX9) (N := 39) hx hb hts in_X9 hown hK hP 0 rfl rfl 3 (by decide) (hts _ q859) (fun _ h9 => h9) rfl dX9_soonest_32 ?_
      obtain ⟨r_22, h_23, hf⟩ := sm_b1_e hf
      refine vp_callSi (W.runV (As := [.int (S_11.1 1), .int (S_11.1 3)]) (rest := [.int x_8]) ⟨hx, hb, hml, hown, hts⟩ (wX9_power l g ad S_11 (S_11.1 1) (S_11.1 3) r_22 h_23) (cwV 2 hts (lw_V q1096 q1098 qs39 q70 q1099) rfl rfl rfl (by decide +kernel) ⟨Nat.le_of_ble_eq_true rfl, Nat.le_of_ble_eq_true rfl⟩) (sm_pv hE hP (va_recv hK hP (ci := 9) (q0 := 0) rfl rfl)) rfl rfl hl.1 rfl (lv_room (Nat.le_of_ble_eq_true rfl)) dX9_soonest_35 ⟨Nat.le_of_ble_eq_true rfl, Nat.le_of_ble_eq_true rfl⟩) (fun r_25 er_24 => ?_)
      have er_24 := er_24.symm
      subst er_24
      refine lv_icmp_ge (tgt := 90) hx hb dX9_soonest_38 (by decide) (fun c_26 => ?_) (fun c_26 => ?_)
      · have hf := (if_pos c_26).symm.trans hf
        cases hf
        have hc_16 : some (x_8, x_9, x_10, S_11) = some (o_18, o_19, o_20, o_21) := hc_16
        cases hc_16
        exact kx_13 _ _ _ hP hD hS (lv_sub hl [0, 1, 2, 3, 4] rfl)
      · have hf := (if_neg c_26).symm.trans hf
        refine lv_aload_n hx hb dX9_soonest_41 rfl (lv_at hl 0 rfl) ?_
        refine lv_iload hx hb dX9_soonest_42 (lv_at hl 2 rfl) ?_
        obtain ⟨S_27, h_28, hf⟩ := sm_b1_e hf
        refine va_callv (va_runV (As := [.int x_8]) (rest := []) ⟨hx, hb, hml, hown, hts⟩ (wX9_lays l g ad S_11 x_8 S_27 h_28) (cwV 1 hts (lw_V q1100 q1102 qs40 q70 q1103) rfl rfl rfl (by decide +kernel) ⟨Nat.le_of_ble_eq_true rfl, Nat.le_of_ble_eq_true rfl⟩) (sm_pe hE hP hD (va_recv hK hP (ci := 9) (q0 := 0) rfl rfl)) rfl rfl hl.1 rfl (lv_room (Nat.le_of_ble_eq_true rfl)) dX9_soonest_44 ⟨Nat.le_of_ble_eq_true rfl, Nat.le_of_ble_eq_true rfl⟩) hS (fun _ _ h => h) (fun _ h => h) (fun u t H locs ht hvm er_29 hB hz hk hS => ?_)
        obtain ⟨hP, hD⟩ := hB
        rw [ht] at hP
        refine lv_aload_n hx hb dX9_soonest_47 rfl (lv_at hl 0 rfl) ?_
        obtain ⟨S_31, r_33, h_32, hf⟩ := sm_b2_e hf
        refine va_calli (va_runV (As := []) (rest := []) ⟨hx, hb, hml, hown, hts⟩ (wX9_goes l g ad S_27  S_31 r_33 h_32) (cwV 0 hts (lw_V q1104 q1106 qs41 q70 q1107) rfl rfl rfl (by decide +kernel) ⟨Nat.le_of_ble_eq_true rfl, Nat.le_of_ble_eq_true rfl⟩) (sm_pe hE hP hD (va_recv hK hP (ci := 9) (q0 := 0) rfl rfl)) rfl rfl hl.1 rfl (lv_room (Nat.le_of_ble_eq_true rfl)) dX9_soonest_48 ⟨Nat.le_of_ble_eq_true rfl, Nat.le_of_ble_eq_true rfl⟩) hS (fun _ _ h => h) (fun _ h => h) (fun r_35 u t H locs ht hvm er_34 hB hz hk hS => ?_)
        have er_34 := er_34.symm
        subst er_34
        obtain ⟨hP, hD⟩ := hB
        rw [ht] at hP
        refine lv_pop hx hb dX9_soonest_51 rfl ?_
        refine lv_aload_n hx hb dX9_soonest_52 rfl (lv_at hl 0 rfl) ?_
        obtain ⟨r_36, h_37, hf⟩ := sm_b1_e hf
        refine vp_callSi (W.runV (As := []) (rest := []) ⟨hx, hb, hml, hown, hts⟩ (wX9_late l g ad S_31  r_36 h_37) (cwV 0 hts (lw_V q1121 q1123 qs44 q70 q1124) rfl rfl rfl (by decide +kernel) ⟨Nat.le_of_ble_eq_true rfl, Nat.le_of_ble_eq_true rfl⟩) (sm_pv hE hP (va_recv hK hP (ci := 9) (q0 := 0) rfl rfl)) rfl rfl hl.1 rfl (lv_room (Nat.le_of_ble_eq_true rfl)) dX9_soonest_53 ⟨Nat.le_of_ble_eq_true rfl, Nat.le_of_ble_eq_true rfl⟩) (fun r_39 er_38 => ?_)
        have er_38 := er_38.symm
        subst er_38
        refine lv_iload_n hx hb dX9_soonest_56 rfl (lv_at hl 3 rfl) ?_
        obtain ⟨x_40, hf, hf0⟩ := sm_b1_e hf
        suffices hj_41 : ∀ (ls : Array Slot), lv_has ls 5 [(0, .ref (ad 0)), (1, .int a1), (4, .int x_8), (3, .int x_9), (2, .int x_10)] → W p l e rX9_soonest s m args below meth c H locs 0 0 Q (F0 m 66 ls [.int x_40]) from by
          refine lv_icmp_ge (tgt := 65) hx hb dX9_soonest_57 (by decide) (fun c_42 => ?_) (fun c_42 => ?_)
          · have hf := (if_pos c_42).symm.trans hf
            refine lv_iload_n hx hb dX9_soonest_65 rfl (lv_at hl 4 rfl) ?_
            cases hf
            exact hj_41 _ (lv_sub hl [0, 1, 2, 3, 4] rfl)
          · have hf := (if_neg c_42).symm.trans hf
            refine lv_iload hx hb dX9_soonest_60 (lv_at hl 2 rfl) ?_
            refine lv_goto (tgt := 66) hx hb dX9_soonest_62 (by decide) ?_
            cases hf
            exact hj_41 _ (lv_sub hl [0, 1, 2, 3, 4] rfl)
        intro ls hl
        have hf := hf0
        refine lv_istore_n (lv' := [(2, .int x_40), (0, .ref (ad 0)), (1, .int a1), (4, .int x_8), (3, .int x_9)]) hx hb dX9_soonest_66 rfl hl (by decide) rfl (fun ls hl => ?_)
        refine lv_aload_n hx hb dX9_soonest_67 rfl (lv_at hl 1 rfl) ?_
        obtain ⟨r_43, h_44, hf⟩ := sm_b1_e hf
        refine vp_callSi (W.runV (As := []) (rest := []) ⟨hx, hb, hml, hown, hts⟩ (wX9_late l g ad S_31  r_43 h_44) (cwV 0 hts (lw_V q1121 q1123 qs44 q70 q1124) rfl rfl rfl (by decide +kernel) ⟨Nat.le_of_ble_eq_true rfl, Nat.le_of_ble_eq_true rfl⟩) (sm_pv hE hP (va_recv hK hP (ci := 9) (q0 := 0) rfl rfl)) rfl rfl hl.1 rfl (lv_room (Nat.le_of_ble_eq_true rfl)) dX9_soonest_68 ⟨Nat.le_of_ble_eq_true rfl, Nat.le_of_ble_eq_true rfl⟩) (fun r_46 er_45 => ?_)
        have er_45 := er_45.symm
        subst er_45
        refine lv_iload_n hx hb dX9_soonest_71 rfl (lv_at hl 4 rfl) ?_
        refine lv_icmp_ge (tgt := 82) hx hb dX9_soonest_72 (by decide) (fun c_47 => ?_) (fun c_47 => ?_)
        · have hf := (if_pos c_47).symm.trans hf
          refine lv_iload_n hx hb dX9_soonest_82 rfl (lv_at hl 4 rfl) ?_
          refine lv_istore_n (lv' := [(3, .int x_9), (2, .int x_40), (0, .ref (ad 0)), (1, .int a1), (4, .int x_8)]) hx hb dX9_soonest_83 rfl hl (by decide) rfl (fun ls hl => ?_)
          refine lv_iinc (v := x_8 + 1) (lv' := [(4, .int (x_8 + 1)), (3, .int x_9), (2, .int x_40), (0, .ref (ad 0)), (1, .int a1)]) hx hb dX9_soonest_84 hl (k := 4) rfl rfl (by decide) rfl (fun ls hl => ?_)
          refine lv_goto (tgt := 24) hx hb dX9_soonest_87 (by decide) ?_
          cases hf
          exact ih_12 _ _ _ _ _ _ _ _ _ _ _ hc_16 hP hD hS (lv_sub hl [3, 4, 0, 1, 2] rfl) kx_13
        · have hf := (if_neg c_47).symm.trans hf
          refine lv_aload_n hx hb dX9_soonest_75 rfl (lv_at hl 1 rfl) ?_
          obtain ⟨r_48, h_49, hf⟩ := sm_b1_e hf
          refine vp_callSi (W.runV (As := []) (rest := []) ⟨hx, hb, hml, hown, hts⟩ (wX9_late l g ad S_31  r_48 h_49) (cwV 0 hts (lw_V q1121 q1123 qs44 q70 q1124) rfl rfl rfl (by decide +kernel) ⟨Nat.le_of_ble_eq_true rfl, Nat.le_of_ble_eq_true rfl⟩) (sm_pv hE hP (va_recv hK hP (ci := 9) (q0 := 0) rfl rfl)) rfl rfl hl.1 rfl (lv_room (Nat.le_of_ble_eq_true rfl)) dX9_soonest_76 ⟨Nat.le_of_ble_eq_true rfl, Nat.le_of_ble_eq_true rfl⟩) (fun r_51 er_50 => ?_)
          have er_50 := er_50.symm
          subst er_50
          refine lv_goto (tgt := 83) hx hb dX9_soonest_79 (by decide) ?_
          refine lv_istore_n (lv' := [(3, .int r_48), (2, .int x_40), (0, .ref (ad 0)), (1, .int a1), (4, .int x_8)]) hx hb dX9_soonest_83 rfl hl (by decide) rfl (fun ls hl => ?_)
          refine lv_iinc (v := x_8 + 1) (lv' := [(4, .int (x_8 + 1)), (3, .int r_48), (2, .int x_40), (0, .ref (ad 0)), (1, .int a1)]) hx hb dX9_soonest_84 hl (k := 4) rfl rfl (by decide) rfl (fun ls hl => ?_)
          refine lv_goto (tgt := 24) hx hb dX9_soonest_87 (by decide) ?_
          cases hf
          exact ih_12 _ _ _ _ _ _ _ _ _ _ _ hc_16 hP hD hS (lv_sub hl [3, 4, 0, 1, 2] rfl) kx_13
  obtain ⟨x_53, x_54, x_55, S_56, ho, hf⟩ := sm_b4_e hf
  refine L_17 FU 0 1000000000 0 S x_53 x_54 x_55 S_56 s.heap [] ls ho hP hD hS (lv_sub hl [3, 4, 0, 1, 2] rfl) ?_
  intro H locs ls hP hD hS hl
  refine lv_aload_n hx hb dX9_soonest_90 rfl (lv_at hl 0 rfl) ?_
  refine lv_iload_n hx hb dX9_soonest_91 rfl (lv_at hl 4 rfl) ?_
  obtain ⟨S_57, h_58, hf⟩ := sm_b1_e hf
  refine va_callv (va_runV (As := [.int x_55]) (rest := []) ⟨hx, hb, hml, hown, hts⟩ (wX9_lays l g ad S_56 x_55 S_57 h_58) (cwV 1 hts (lw_V q1100 q1102 qs40 q70 q1103) rfl rfl rfl (by decide +kernel) ⟨Nat.le_of_ble_eq_true rfl, Nat.le_of_ble_eq_true rfl⟩) (sm_pe hE hP hD (va_recv hK hP (ci := 9) (q0 := 0) rfl rfl)) rfl rfl hl.1 rfl (lv_room (Nat.le_of_ble_eq_true rfl)) dX9_soonest_92 ⟨Nat.le_of_ble_eq_true rfl, Nat.le_of_ble_eq_true rfl⟩) hS (fun _ _ h => h) (fun _ h => h) (fun u t H locs ht hvm er_59 hB hz hk hS => ?_)
  obtain ⟨hP, hD⟩ := hB
  rw [ht] at hP
  refine lv_iload_n hx hb dX9_soonest_95 rfl (lv_at hl 1 rfl) ?_
  refine lv_bipush (v := (-9)) hx hb dX9_soonest_96 (by decide) ?_
  refine lv_icmp_ne (tgt := 109) hx hb dX9_soonest_98 (by decide) (fun c_61 => ?_) (fun c_61 => ?_)
  · have hf := (if_neg c_61).symm.trans hf
    refine lv_aload_n hx hb dX9_soonest_109 rfl (lv_at hl 0 rfl) ?_
    refine va_get (D := (g.1, g.2.1)) (ci := 9) (v := .ref (ad 30)) (C := RX9) (T := TX9) (N := 39) hx hb hts in_X9 hown hK hP 0 rfl rfl 30 (by decide) (hts _ q886) (fun _ h9 => h9) rfl dX9_soonest_110 ?_
    refine lv_iload_n hx hb dX9_soonest_113 rfl (lv_at hl 1 rfl) ?_
    obtain ⟨hg, hf⟩ := sm_gd_e hf
    refine va_iald hx hb hK hP 13 0 rfl rfl (sm_in hg) dX9_soonest_114 ?_
    have hf := Option.some.inj hf
    rw [← hQ]
    have hf := Prod.mk.inj hf
    exact W.iret (v := S_57.2.1 30 a1.toNatClampNeg) hx hb hr (fun t ht hW => ⟨⟨_, (), rfl, hf.2, by rw [ht, ← hf.1]; exact hP, by rw [← hf.1]; exact hD⟩, hS.F ht⟩) hS.2.2 dX9_soonest_115
  · have hf := (if_pos c_61).symm.trans hf
    refine lv_iload_n hx hb dX9_soonest_101 rfl (lv_at hl 3 rfl) ?_
    refine lv_sipush (v := 10000) hx hb dX9_soonest_102 (by decide) ?_
    refine lv_idiv hx hb dX9_soonest_105 (by decide) ?_
    refine lv_goto (tgt := 115) hx hb dX9_soonest_106 (by decide) ?_
    have hf := Option.some.inj hf
    rw [← hQ]
    have hf := Prod.mk.inj hf
    exact W.iret (v := x_54 / 10000) hx hb hr (fun t ht hW => ⟨⟨_, (), rfl, hf.2, by rw [ht, ← hf.1]; exact hP, by rw [← hf.1]; exact hD⟩, hS.F ht⟩) hS.2.2 dX9_soonest_115
abbrev rX9_waits : Room := { frames := 2, cells := 0, slots := 0, locals := 43 }
set_option maxHeartbeats 4000000 in
theorem wX9_waits (l : Launch) (g : GG) (ad : Nat → Nat) (S : MS) (a1 : Int32) (rf : Int32) (hf : fX9_waits S a1 = some rf) : Met l yX9_waits (ws_ yX9_waits cX9_waits 2 (some .int)) rX9_waits (va_Pc [.ref (ad 0), .int a1] (fun U => PP g (WM g ad S) U.heap ∧ EV g U)) (vp_Si (fun y => y = rf)) 0 0 (fun _ => False) := by
  refine sm_st (by decide) ?_
  intro p e s m args below meth c hx hb hr hlocks hml hown hnm hts hv
  obtain ⟨hargs, hP, hE⟩ := hv
  obtain ⟨hK, hN⟩ := id hE
  have hown : s.vm.findClass RX9 = some m.cls := hown
  refine sm_en _ (Nat.le_of_ble_eq_true rfl) hargs (fun ls hl => ?_)
  have hl : lv_has ls 2 [(0, .ref (ad 0)), (1, .int a1)] := hl
  generalize hQ : MQ below _ args s _ _ _ = Q
  unfold fX9_waits at hf
  refine lv_aload_n hx hb dX9_waits_0 rfl (lv_at hl 0 rfl) ?_
  refine lv_iload_n hx hb dX9_waits_1 rfl (lv_at hl 1 rfl) ?_
  refine vp_callSi (W.runV (As := [.int a1]) (rest := []) ⟨hx, hb, hml, hown, hts⟩ (wX9_isTraveller l g ad S a1 (fX9_isTraveller S a1) rfl) (cwV 1 hts (lw_V q1029 q1031 qs30 q70 q1032) rfl rfl rfl (by decide +kernel) ⟨Nat.le_of_ble_eq_true rfl, Nat.le_of_ble_eq_true rfl⟩) (sm_pv hE hP (va_recv hK hP (ci := 9) (q0 := 0) rfl rfl)) rfl rfl hl.1 rfl (lv_room (Nat.le_of_ble_eq_true rfl)) dX9_waits_2 ⟨Nat.le_of_ble_eq_true rfl, Nat.le_of_ble_eq_true rfl⟩) (fun r_2 er_1 => ?_)
  have er_1 := er_1.symm
  subst er_1
  refine lv_if_ne (tgt := 10) hx hb dX9_waits_5 (by decide) (fun c_3 => ?_) (fun c_3 => ?_)
  · have hf := (if_neg c_3).symm.trans hf
    refine lv_aload_n hx hb dX9_waits_10 rfl (lv_at hl 0 rfl) ?_
    refine va_get (D := (g.1, g.2.1)) (ci := 9) (v := .ref (ad 7)) (C := RX9) (T := TX9) (N := 39) hx hb hts in_X9 hown hK hP 0 rfl rfl 7 (by decide) (hts _ q863) (fun _ h9 => h9) rfl dX9_waits_11 ?_
    refine lv_iconst (v := 2) hx hb dX9_waits_14 (by decide) ?_
    refine lv_iload_n hx hb dX9_waits_15 rfl (lv_at hl 1 rfl) ?_
    refine lv_iadd hx hb dX9_waits_16 ?_
    obtain ⟨hg, hf⟩ := sm_gd_e hf
    refine va_iald hx hb hK hP 3 0 rfl rfl (sm_in hg) dX9_waits_17 ?_
    refine lv_bipush (v := (-9)) hx hb dX9_waits_18 (by decide) ?_
    refine lv_icmp_ne (tgt := 26) hx hb dX9_waits_20 (by decide) (fun c_4 => ?_) (fun c_4 => ?_)
    · have hf := (if_neg c_4).symm.trans hf
      refine lv_aload_n hx hb dX9_waits_26 rfl (lv_at hl 0 rfl) ?_
      refine va_get (D := (g.1, g.2.1)) (ci := 9) (v := .ref (ad 7)) (C := RX9) (T := TX9) (N := 39) hx hb hts in_X9 hown hK hP 0 rfl rfl 7 (by decide) (hts _ q863) (fun _ h9 => h9) rfl dX9_waits_27 ?_
      refine lv_bipush (v := 8) hx hb dX9_waits_30 (by decide) ?_
      refine lv_iload_n hx hb dX9_waits_32 rfl (lv_at hl 1 rfl) ?_
      refine lv_iadd hx hb dX9_waits_33 ?_
      obtain ⟨hg, hf⟩ := sm_gd_e hf
      refine va_iald hx hb hK hP 3 0 rfl rfl (sm_in hg) dX9_waits_34 ?_
      refine lv_aload_n hx hb dX9_waits_35 rfl (lv_at hl 0 rfl) ?_
      refine va_get (D := (g.1, g.2.1)) (ci := 9) (v := .int (S.1 0)) (C := RX9) (T := TX9) (N := 39) hx hb hts in_X9 hown hK hP 0 rfl rfl 0 (by decide) (hts _ q856) (fun _ h9 => h9) rfl dX9_waits_36 ?_
      refine lv_icmp_ge (tgt := 59) hx hb dX9_waits_39 (by decide) (fun c_5 => ?_) (fun c_5 => ?_)
      · have hf := (if_pos c_5).symm.trans hf
        refine lv_iconst (v := 0) hx hb dX9_waits_59 (by decide) ?_
        have hf := Option.some.inj hf
        rw [← hQ]
        exact W.iret (v := 0) hx hb hr (fun t ht hW => ⟨_, rfl, hf, ht⟩) (fun _ h => by cases h) dX9_waits_60
      · have hf := (if_neg c_5).symm.trans hf
        refine lv_aload_n hx hb dX9_waits_42 rfl (lv_at hl 0 rfl) ?_
        refine va_get (D := (g.1, g.2.1)) (ci := 9) (v := .int (S.1 0)) (C := RX9) (T := TX9) (N := 39) hx hb hts in_X9 hown hK hP 0 rfl rfl 0 (by decide) (hts _ q856) (fun _ h9 => h9) rfl dX9_waits_43 ?_
        refine lv_aload_n hx hb dX9_waits_46 rfl (lv_at hl 0 rfl) ?_
        refine va_get (D := (g.1, g.2.1)) (ci := 9) (v := .ref (ad 7)) (C := RX9) (T := TX9) (N := 39) hx hb hts in_X9 hown hK hP 0 rfl rfl 7 (by decide) (hts _ q863) (fun _ h9 => h9) rfl dX9_waits_47 ?_
        refine lv_bipush (v := 8) hx hb dX9_waits_50 (by decide) ?_
        refine lv_iload_n hx hb dX9_waits_52 rfl (lv_at hl 1 rfl) ?_
        refine lv_iadd hx hb dX9_waits_53 ?_
        obtain ⟨hg, hf⟩ := sm_gd_e hf
        refine va_iald hx hb hK hP 3 0 rfl rfl (sm_in hg) dX9_waits_54 ?_
        refine lv_isub hx hb dX9_waits_55 ?_
        refine lv_goto (tgt := 60) hx hb dX9_waits_56 (by decide) ?_
        have hf := Option.some.inj hf
        rw [← hQ]
        exact W.iret (v := (S.1 0) - (S.2.1 7 (8 + a1).toNatClampNeg)) hx hb hr (fun t ht hW => ⟨_, rfl, hf, ht⟩) (fun _ h => by cases h) dX9_waits_60
    · have hf := (if_pos c_4).symm.trans hf
      refine lv_bipush (v := (-2)) hx hb dX9_waits_23 (by decide) ?_
      have hf := Option.some.inj hf
      rw [← hQ]
      exact W.iret (v := (-2)) hx hb hr (fun t ht hW => ⟨_, rfl, hf, ht⟩) (fun _ h => by cases h) dX9_waits_25
  · have hf := (if_pos c_3).symm.trans hf
    refine lv_iconst (v := (-1)) hx hb dX9_waits_8 (by decide) ?_
    have hf := Option.some.inj hf
    rw [← hQ]
    exact W.iret (v := (-1)) hx hb hr (fun t ht hW => ⟨_, rfl, hf, ht⟩) (fun _ h => by cases h) dX9_waits_9
abbrev rX9_ways : Room := { frames := 3, cells := 0, slots := 0, locals := 68 }
set_option maxHeartbeats 4000000 in
theorem wX9_ways (l : Launch) (g : GG) (ad : Nat → Nat) (S : MS) (rf : Int32) (hf : fX9_ways S = some rf) : Met l yX9_ways (ws_ yX9_ways cX9_ways 3 (some .int)) rX9_ways (va_Pc [.ref (ad 0)] (fun U => PP g (WM g ad S) U.heap ∧ EV g U)) (vp_Si (fun y => y = rf)) 0 0 (fun _ => False) := by
  refine sm_st (by decide) ?_
  intro p e s m args below meth c hx hb hr hlocks hml hown hnm hts hv
  obtain ⟨hargs, hP, hE⟩ := hv
  obtain ⟨hK, hN⟩ := id hE
  have hown : s.vm.findClass RX9 = some m.cls := hown
  refine sm_en _ (Nat.le_of_ble_eq_true rfl) hargs (fun ls hl => ?_)
  have hl : lv_has ls 3 [(0, .ref (ad 0))] := hl
  generalize hQ : MQ below _ args s _ _ _ = Q
  unfold fX9_ways at hf
  refine lv_aload_n hx hb dX9_ways_0 rfl (lv_at hl 0 rfl) ?_
  refine va_get (D := (g.1, g.2.1)) (ci := 9) (v := .int (S.1 12)) (C := RX9) (T := TX9) (N := 39) hx hb hts in_X9 hown hK hP 0 rfl rfl 12 (by decide) (hts _ q868) (fun _ h9 => h9) rfl dX9_ways_1 ?_
  obtain ⟨x_1, hf, hf0⟩ := sm_b1_e hf
  suffices hj_2 : ∀ (ls : Array Slot), lv_has ls 3 [(0, .ref (ad 0))] → W p l e rX9_ways s m args below meth c s.heap [] 0 0 Q (F0 m 12 ls [.int x_1]) from by
    refine lv_if_le (tgt := 11) hx hb dX9_ways_4 (by decide) (fun c_3 => ?_) (fun c_3 => ?_)
    · have hf := (if_pos c_3).symm.trans hf
      refine lv_iconst (v := 0) hx hb dX9_ways_11 (by decide) ?_
      cases hf
      exact hj_2 _ (lv_sub hl [0] rfl)
    · have hf := (if_neg c_3).symm.trans hf
      refine lv_iconst (v := 1) hx hb dX9_ways_7 (by decide) ?_
      refine lv_goto (tgt := 12) hx hb dX9_ways_8 (by decide) ?_
      cases hf
      exact hj_2 _ (lv_sub hl [0] rfl)
  intro ls hl
  have hf := hf0
  refine lv_istore_n (lv' := [(1, .int x_1), (0, .ref (ad 0))]) hx hb dX9_ways_12 rfl hl (by decide) rfl (fun ls hl => ?_)
  refine lv_iconst (v := 0) hx hb dX9_ways_13 (by decide) ?_
  refine lv_istore_n (lv' := [(2, .int 0), (1, .int x_1), (0, .ref (ad 0))]) hx hb dX9_ways_14 rfl hl (by decide) rfl (fun ls hl => ?_)
  have L_11 : ∀ (n : Nat) (x_4 : Int32) (x_5 : Int32) (o_12 : Int32) (o_13 : Int32) (ls : Array Slot), sm_lp (fun q => fX9_ways_15 S q.1 q.2) n (x_4, x_5) = some (o_12, o_13) → lv_has ls 3 [(0, .ref (ad 0)), (2, .int x_4), (1, .int x_5)] → (∀ (ls : Array Slot), lv_has ls 3 [(0, .ref (ad 0)), (2, .int o_12), (1, .int o_13)] → W p l e rX9_ways s m args below meth c s.heap [] 0 0 Q (F0 m 40 ls [])) → W p l e rX9_ways s m args below meth c s.heap [] 0 0 Q (F0 m 15 ls []) := by
    intro n
    induction n with
    | zero =>
      intro _ _ _ _ _ hf
      cases hf
    | succ n ih_6 =>
      intro x_4 x_5 o_12 o_13 ls hf hl kx_7
      obtain ⟨q, hf, hc_10⟩ := sm_bnd hf
      have hf : fX9_ways_15 S x_4 x_5 = some q := hf
      unfold fX9_ways_15 at hf
      refine lv_aload_n hx hb dX9_ways_15 rfl (lv_at hl 0 rfl) ?_
      refine lv_iload_n hx hb dX9_ways_16 rfl (lv_at hl 1 rfl) ?_
      refine vp_callSi (W.runV (As := [.int x_4]) (rest := []) ⟨hx, hb, hml, hown, hts⟩ (wX9_isCopied l g ad S x_4 (fX9_isCopied S x_4) rfl) (cwV 1 hts (lw_V q1187 q1189 qs47 q70 q1190) rfl rfl rfl (by decide +kernel) ⟨Nat.le_of_ble_eq_true rfl, Nat.le_of_ble_eq_true rfl⟩) (sm_pv hE hP (va_recv hK hP (ci := 9) (q0 := 0) rfl rfl)) rfl rfl hl.1 rfl (lv_room (Nat.le_of_ble_eq_true rfl)) dX9_ways_17 ⟨Nat.le_of_ble_eq_true rfl, Nat.le_of_ble_eq_true rfl⟩) (fun r_15 er_14 => ?_)
      have er_14 := er_14.symm
      subst er_14
      refine lv_if_eq (tgt := 40) hx hb dX9_ways_20 (by decide) (fun c_16 => ?_) (fun c_16 => ?_)
      · have hf := (if_pos c_16).symm.trans hf
        cases hf
        have hc_10 : some (x_4, x_5) = some (o_12, o_13) := hc_10
        cases hc_10
        exact kx_7 _ (lv_sub hl [0, 1, 2] rfl)
      · have hf := (if_neg c_16).symm.trans hf
        refine lv_iload_n hx hb dX9_ways_23 rfl (lv_at hl 2 rfl) ?_
        refine lv_aload_n hx hb dX9_ways_24 rfl (lv_at hl 0 rfl) ?_
        refine lv_iload_n hx hb dX9_ways_25 rfl (lv_at hl 1 rfl) ?_
        obtain ⟨r_17, h_18, hf⟩ := sm_b1_e hf
        refine vp_callSi (W.runV (As := [.int x_4]) (rest := [.int x_5]) ⟨hx, hb, hml, hown, hts⟩ (wX9_stoodAt l g ad S x_4 r_17 h_18) (cwV 1 hts (lw_V q1191 q1193 qs48 q70 q1194) rfl rfl rfl (by decide +kernel) ⟨Nat.le_of_ble_eq_true rfl, Nat.le_of_ble_eq_true rfl⟩) (sm_pv hE hP (va_recv hK hP (ci := 9) (q0 := 0) rfl rfl)) rfl rfl hl.1 rfl (lv_room (Nat.le_of_ble_eq_true rfl)) dX9_ways_26 ⟨Nat.le_of_ble_eq_true rfl, Nat.le_of_ble_eq_true rfl⟩) (fun r_20 er_19 => ?_)
        have er_19 := er_19.symm
        subst er_19
        obtain ⟨r_21, h_22, hf⟩ := sm_b1_e hf
        refine vp_callSi (W.runS (As := [.int r_17]) (rest := [.int x_5]) ⟨hx, hb, hml, hown, hts⟩ (wX9_bits l r_17 r_21 h_22) (va_cwS 1 hts (lw_S q1085 q1086 q70 q1087) rfl rfl rfl (by decide +kernel) ⟨Nat.le_of_ble_eq_true rfl, Nat.le_of_ble_eq_true rfl⟩) (sm_ps) rfl rfl hl.1 rfl (lv_room (Nat.le_of_ble_eq_true rfl)) dX9_ways_29 ⟨Nat.le_of_ble_eq_true rfl, Nat.le_of_ble_eq_true rfl⟩) (fun r_24 er_23 => ?_)
        have er_23 := er_23.symm
        subst er_23
        refine lv_imul hx hb dX9_ways_32 ?_
        refine lv_istore_n (lv' := [(1, .int (x_5 * r_21)), (0, .ref (ad 0)), (2, .int x_4)]) hx hb dX9_ways_33 rfl hl (by decide) rfl (fun ls hl => ?_)
        refine lv_iinc (v := x_4 + 1) (lv' := [(2, .int (x_4 + 1)), (1, .int (x_5 * r_21)), (0, .ref (ad 0))]) hx hb dX9_ways_34 hl (k := 2) rfl rfl (by decide) rfl (fun ls hl => ?_)
        refine lv_goto (tgt := 15) hx hb dX9_ways_37 (by decide) ?_
        cases hf
        exact ih_6 _ _ _ _ _ hc_10 (lv_sub hl [2, 0, 1] rfl) kx_7
  obtain ⟨x_26, x_27, ho, hf⟩ := sm_b2_e hf
  refine L_11 FU 0 x_1 x_26 x_27 ls ho (lv_sub hl [2, 0, 1] rfl) ?_
  intro ls hl
  refine lv_iload_n hx hb dX9_ways_40 rfl (lv_at hl 2 rfl) ?_
  have hf := Option.some.inj hf
  rw [← hQ]
  exact W.iret (v := x_27) hx hb hr (fun t ht hW => ⟨_, rfl, hf, ht⟩) (fun _ h => by cases h) dX9_ways_41
abbrev rX9_letters : Room := { frames := 4, cells := 0, slots := 0, locals := 90 }
set_option maxHeartbeats 4000000 in
theorem wX9_letters (l : Launch) (g : GG) (ad : Nat → Nat) (S : MS) (a1 : Int32) (rf : Int32) (hf : fX9_letters S a1 = some rf) : Met l yX9_letters (ws_ yX9_letters cX9_letters 3 (some .int)) rX9_letters (va_Pc [.ref (ad 0), .int a1] (fun U => PP g (WM g ad S) U.heap ∧ EV g U)) (vp_Si (fun y => y = rf)) 0 0 (fun _ => False) := by
  refine sm_st (by decide) ?_
  intro p e s m args below meth c hx hb hr hlocks hml hown hnm hts hv
  obtain ⟨hargs, hP, hE⟩ := hv
  obtain ⟨hK, hN⟩ := id hE
  have hown : s.vm.findClass RX9 = some m.cls := hown
  refine sm_en _ (Nat.le_of_ble_eq_true rfl) hargs (fun ls hl => ?_)
  have hl : lv_has ls 3 [(0, .ref (ad 0)), (1, .int a1)] := hl
  generalize hQ : MQ below _ args s _ _ _ = Q
  unfold fX9_letters at hf
  refine lv_iload_n hx hb dX9_letters_0 rfl (lv_at hl 1 rfl) ?_
  refine lv_bipush (v := (-9)) hx hb dX9_letters_1 (by decide) ?_
  refine lv_icmp_ne (tgt := 11) hx hb dX9_letters_3 (by decide) (fun c_1 => ?_) (fun c_1 => ?_)
  · have hf := (if_neg c_1).symm.trans hf
    refine lv_aload_n hx hb dX9_letters_11 rfl (lv_at hl 0 rfl) ?_
    refine lv_iload_n hx hb dX9_letters_12 rfl (lv_at hl 1 rfl) ?_
    refine vp_callSi (W.runV (As := [.int a1]) (rest := []) ⟨hx, hb, hml, hown, hts⟩ (wX9_isCopied l g ad S a1 (fX9_isCopied S a1) rfl) (cwV 1 hts (lw_V q1187 q1189 qs47 q70 q1190) rfl rfl rfl (by decide +kernel) ⟨Nat.le_of_ble_eq_true rfl, Nat.le_of_ble_eq_true rfl⟩) (sm_pv hE hP (va_recv hK hP (ci := 9) (q0 := 0) rfl rfl)) rfl rfl hl.1 rfl (lv_room (Nat.le_of_ble_eq_true rfl)) dX9_letters_13 ⟨Nat.le_of_ble_eq_true rfl, Nat.le_of_ble_eq_true rfl⟩) (fun r_3 er_2 => ?_)
    have er_2 := er_2.symm
    subst er_2
    refine lv_if_ne (tgt := 21) hx hb dX9_letters_16 (by decide) (fun c_4 => ?_) (fun c_4 => ?_)
    · have hf := (if_neg c_4).symm.trans hf
      refine lv_aload_n hx hb dX9_letters_21 rfl (lv_at hl 0 rfl) ?_
      refine lv_iload_n hx hb dX9_letters_22 rfl (lv_at hl 1 rfl) ?_
      obtain ⟨r_5, h_6, hf⟩ := sm_b1_e hf
      refine vp_callSi (W.runV (As := [.int a1]) (rest := []) ⟨hx, hb, hml, hown, hts⟩ (wX9_stoodAt l g ad S a1 r_5 h_6) (cwV 1 hts (lw_V q1191 q1193 qs48 q70 q1194) rfl rfl rfl (by decide +kernel) ⟨Nat.le_of_ble_eq_true rfl, Nat.le_of_ble_eq_true rfl⟩) (sm_pv hE hP (va_recv hK hP (ci := 9) (q0 := 0) rfl rfl)) rfl rfl hl.1 rfl (lv_room (Nat.le_of_ble_eq_true rfl)) dX9_letters_23 ⟨Nat.le_of_ble_eq_true rfl, Nat.le_of_ble_eq_true rfl⟩) (fun r_8 er_7 => ?_)
      have er_7 := er_7.symm
      subst er_7
      refine lv_istore_n (lv' := [(2, .int r_5), (0, .ref (ad 0)), (1, .int a1)]) hx hb dX9_letters_26 rfl hl (by decide) rfl (fun ls hl => ?_)
      refine lv_aload_n hx hb dX9_letters_27 rfl (lv_at hl 1 rfl) ?_
      obtain ⟨r_9, h_10, hf⟩ := sm_b1_e hf
      refine vp_callSi (W.runV (As := []) (rest := []) ⟨hx, hb, hml, hown, hts⟩ (wX9_ways l g ad S  r_9 h_10) (cwV 0 hts (lw_V q1199 q1201 qs49 q70 q1202) rfl rfl rfl (by decide +kernel) ⟨Nat.le_of_ble_eq_true rfl, Nat.le_of_ble_eq_true rfl⟩) (sm_pv hE hP (va_recv hK hP (ci := 9) (q0 := 0) rfl rfl)) rfl rfl hl.1 rfl (lv_room (Nat.le_of_ble_eq_true rfl)) dX9_letters_28 ⟨Nat.le_of_ble_eq_true rfl, Nat.le_of_ble_eq_true rfl⟩) (fun r_12 er_11 => ?_)
      have er_11 := er_11.symm
      subst er_11
      refine lv_if_ne (tgt := 39) hx hb dX9_letters_31 (by decide) (fun c_13 => ?_) (fun c_13 => ?_)
      · have hf := (if_neg c_13).symm.trans hf
        refine lv_iload_n hx hb dX9_letters_39 rfl (lv_at hl 0 rfl) ?_
        obtain ⟨r_14, h_15, hf⟩ := sm_b1_e hf
        refine vp_callSi (W.runS (As := [.int r_5]) (rest := []) ⟨hx, hb, hml, hown, hts⟩ (wX9_bits l r_5 r_14 h_15) (va_cwS 1 hts (lw_S q1085 q1086 q70 q1087) rfl rfl rfl (by decide +kernel) ⟨Nat.le_of_ble_eq_true rfl, Nat.le_of_ble_eq_true rfl⟩) (sm_ps) rfl rfl hl.1 rfl (lv_room (Nat.le_of_ble_eq_true rfl)) dX9_letters_40 ⟨Nat.le_of_ble_eq_true rfl, Nat.le_of_ble_eq_true rfl⟩) (fun r_17 er_16 => ?_)
        have er_16 := er_16.symm
        subst er_16
        refine lv_iconst (v := 1) hx hb dX9_letters_43 (by decide) ?_
        refine lv_icmp_le (tgt := 52) hx hb dX9_letters_44 (by decide) (fun c_18 => ?_) (fun c_18 => ?_)
        · have hf := (if_pos c_18).symm.trans hf
          refine lv_aload_n hx hb dX9_letters_52 rfl (lv_at hl 1 rfl) ?_
          refine lv_iload_n hx hb dX9_letters_53 rfl (lv_at hl 0 rfl) ?_
          obtain ⟨r_19, h_20, hf⟩ := sm_b1_e hf
          refine vp_callSi (W.runV (As := [.int r_5]) (rest := []) ⟨hx, hb, hml, hown, hts⟩ (wX9_sureOf l g ad S r_5 r_19 h_20) (cwV 1 hts (lw_V q1203 q1205 qs50 q70 q1206) rfl rfl rfl (by decide +kernel) ⟨Nat.le_of_ble_eq_true rfl, Nat.le_of_ble_eq_true rfl⟩) (sm_pv hE hP (va_recv hK hP (ci := 9) (q0 := 0) rfl rfl)) rfl rfl hl.1 rfl (lv_room (Nat.le_of_ble_eq_true rfl)) dX9_letters_54 ⟨Nat.le_of_ble_eq_true rfl, Nat.le_of_ble_eq_true rfl⟩) (fun r_22 er_21 => ?_)
          have er_21 := er_21.symm
          subst er_21
          have hf := Option.some.inj hf
          rw [← hQ]
          exact W.iret (v := r_19) hx hb hr (fun t ht hW => ⟨_, rfl, hf, ht⟩) (fun _ h => by cases h) dX9_letters_57
        · have hf := (if_neg c_18).symm.trans hf
          refine lv_bipush (v := (-5)) hx hb dX9_letters_47 (by decide) ?_
          refine lv_goto (tgt := 57) hx hb dX9_letters_49 (by decide) ?_
          have hf := Option.some.inj hf
          rw [← hQ]
          exact W.iret (v := (-5)) hx hb hr (fun t ht hW => ⟨_, rfl, hf, ht⟩) (fun _ h => by cases h) dX9_letters_57
      · have hf := (if_pos c_13).symm.trans hf
        refine lv_bipush (v := (-9)) hx hb dX9_letters_34 (by decide) ?_
        refine lv_goto (tgt := 57) hx hb dX9_letters_36 (by decide) ?_
        have hf := Option.some.inj hf
        rw [← hQ]
        exact W.iret (v := (-9)) hx hb hr (fun t ht hW => ⟨_, rfl, hf, ht⟩) (fun _ h => by cases h) dX9_letters_57
    · have hf := (if_pos c_4).symm.trans hf
      refine lv_iconst (v := (-1)) hx hb dX9_letters_19 (by decide) ?_
      have hf := Option.some.inj hf
      rw [← hQ]
      exact W.iret (v := (-1)) hx hb hr (fun t ht hW => ⟨_, rfl, hf, ht⟩) (fun _ h => by cases h) dX9_letters_20
  · have hf := (if_pos c_1).symm.trans hf
    refine lv_aload_n hx hb dX9_letters_6 rfl (lv_at hl 0 rfl) ?_
    obtain ⟨r_23, h_24, hf⟩ := sm_b1_e hf
    refine vp_callSi (W.runV (As := []) (rest := []) ⟨hx, hb, hml, hown, hts⟩ (wX9_ways l g ad S  r_23 h_24) (cwV 0 hts (lw_V q1199 q1201 qs49 q70 q1202) rfl rfl rfl (by decide +kernel) ⟨Nat.le_of_ble_eq_true rfl, Nat.le_of_ble_eq_true rfl⟩) (sm_pv hE hP (va_recv hK hP (ci := 9) (q0 := 0) rfl rfl)) rfl rfl hl.1 rfl (lv_room (Nat.le_of_ble_eq_true rfl)) dX9_letters_7 ⟨Nat.le_of_ble_eq_true rfl, Nat.le_of_ble_eq_true rfl⟩) (fun r_26 er_25 => ?_)
    have er_25 := er_25.symm
    subst er_25
    have hf := Option.some.inj hf
    rw [← hQ]
    exact W.iret (v := r_23) hx hb hr (fun t ht hW => ⟨_, rfl, hf, ht⟩) (fun _ h => by cases h) dX9_letters_10
abbrev rX9_well : Room := { frames := 2, cells := 0, slots := 0, locals := 43 }
set_option maxHeartbeats 4000000 in
theorem wX9_well (l : Launch) (g : GG) (ad : Nat → Nat) (S : MS) (a1 : Int32) (a2 : Int32) (a3 : Int32) (Sf : MS) (rf : Int64) (hf : fX9_well S a1 a2 a3 = some (Sf, rf)) : Met l yX9_well (ws_ yX9_well cX9_well 8 (some .long)) rX9_well (va_Pc [.ref (ad 0), .int a1, .int a2, .int a3] (fun U => PP g (WM g ad S) U.heap ∧ EV g U ∧ va_D (AM ad) (WM g ad S))) (va_Ql (fun y (_ : Unit) => y = rf) (fun _ t => PP g (WM g ad Sf) t.heap ∧ va_D (AM ad) (WM g ad Sf)) (AM ad)) 0 0 (AM ad) := by
  refine sm_st (by decide) ?_
  intro p e s m args below meth c hx hb hr hlocks hml hown hnm hts hv
  obtain ⟨hargs, hP, hE, hD⟩ := hv
  obtain ⟨hK, hN⟩ := id hE
  have hS : va_S (AM ad) s.heap s.heap [] := va_S.rf
  have hown : s.vm.findClass RX9 = some m.cls := hown
  refine sm_en _ (Nat.le_of_ble_eq_true rfl) hargs (fun ls hl => ?_)
  have hl : lv_has ls 8 [(0, .ref (ad 0)), (1, .int a1), (2, .int a2), (3, .int a3)] := hl
  generalize hQ : MQ below _ args s _ _ _ = Q
  unfold fX9_well at hf
  refine lv_aload_n hx hb dX9_well_0 rfl (lv_at hl 0 rfl) ?_
  refine lv_iload_n hx hb dX9_well_1 rfl (lv_at hl 1 rfl) ?_
  refine vp_callSi (W.runV (As := [.int a1]) (rest := []) ⟨hx, hb, hml, hown, hts⟩ (wX9_isTraveller l g ad S a1 (fX9_isTraveller S a1) rfl) (cwV 1 hts (lw_V q1029 q1031 qs30 q70 q1032) rfl rfl rfl (by decide +kernel) ⟨Nat.le_of_ble_eq_true rfl, Nat.le_of_ble_eq_true rfl⟩) (sm_pv hE hP (va_recv hK hP (ci := 9) (q0 := 0) rfl rfl)) rfl rfl hl.1 rfl (lv_room (Nat.le_of_ble_eq_true rfl)) dX9_well_2 ⟨Nat.le_of_ble_eq_true rfl, Nat.le_of_ble_eq_true rfl⟩) (fun r_2 er_1 => ?_)
  have er_1 := er_1.symm
  subst er_1
  refine lv_if_eq (tgt := 27) hx hb dX9_well_5 (by decide) (fun c_3 => ?_) (fun c_3 => ?_)
  · have hf := (if_pos c_3).symm.trans hf
    refine lv_ldc2 (v := (-1)) hx hb hown (hts _ q1141) dX9_well_27 ?_
    have hf := Option.some.inj hf
    rw [← hQ]
    have hf := Prod.mk.inj hf
    exact W.lret (v := (-1)) hx hb hr (fun t ht hW => ⟨⟨_, (), rfl, hf.2, by rw [ht, ← hf.1]; exact hP, by rw [← hf.1]; exact hD⟩, hS.F ht⟩) hS.2.2 dX9_well_30
  · have hf := (if_neg c_3).symm.trans hf
    refine lv_iload_n hx hb dX9_well_8 rfl (lv_at hl 2 rfl) ?_
    refine lv_iconst (v := 0) hx hb dX9_well_9 (by decide) ?_
    refine lv_bipush (v := 6) hx hb dX9_well_10 (by decide) ?_
    refine vp_callSi (W.runS (As := [.int a2, .int 0, .int 6]) (rest := []) ⟨hx, hb, hml, hown, hts⟩ (wX9_in l a2 0 6 (fX9_in a2 0 6) rfl) (va_cwS 3 hts (lw_S q979 q980 q70 q981) rfl rfl rfl (by decide +kernel) ⟨Nat.le_of_ble_eq_true rfl, Nat.le_of_ble_eq_true rfl⟩) (sm_ps) rfl rfl hl.1 rfl (lv_room (Nat.le_of_ble_eq_true rfl)) dX9_well_12 ⟨Nat.le_of_ble_eq_true rfl, Nat.le_of_ble_eq_true rfl⟩) (fun r_5 er_4 => ?_)
    have er_4 := er_4.symm
    subst er_4
    refine lv_if_eq (tgt := 27) hx hb dX9_well_15 (by decide) (fun c_6 => ?_) (fun c_6 => ?_)
    · have hf := (if_pos c_6).symm.trans hf
      refine lv_ldc2 (v := (-1)) hx hb hown (hts _ q1141) dX9_well_27 ?_
      have hf := Option.some.inj hf
      rw [← hQ]
      have hf := Prod.mk.inj hf
      exact W.lret (v := (-1)) hx hb hr (fun t ht hW => ⟨⟨_, (), rfl, hf.2, by rw [ht, ← hf.1]; exact hP, by rw [← hf.1]; exact hD⟩, hS.F ht⟩) hS.2.2 dX9_well_30
    · have hf := (if_neg c_6).symm.trans hf
      refine lv_iload_n hx hb dX9_well_18 rfl (lv_at hl 3 rfl) ?_
      refine lv_iconst (v := 0) hx hb dX9_well_19 (by decide) ?_
      refine lv_iconst (v := 1) hx hb dX9_well_20 (by decide) ?_
      refine vp_callSi (W.runS (As := [.int a3, .int 0, .int 1]) (rest := []) ⟨hx, hb, hml, hown, hts⟩ (wX9_in l a3 0 1 (fX9_in a3 0 1) rfl) (va_cwS 3 hts (lw_S q979 q980 q70 q981) rfl rfl rfl (by decide +kernel) ⟨Nat.le_of_ble_eq_true rfl, Nat.le_of_ble_eq_true rfl⟩) (sm_ps) rfl rfl hl.1 rfl (lv_room (Nat.le_of_ble_eq_true rfl)) dX9_well_21 ⟨Nat.le_of_ble_eq_true rfl, Nat.le_of_ble_eq_true rfl⟩) (fun r_8 er_7 => ?_)
      have er_7 := er_7.symm
      subst er_7
      refine lv_if_ne (tgt := 31) hx hb dX9_well_24 (by decide) (fun c_9 => ?_) (fun c_9 => ?_)
      · have hf := (if_neg c_9).symm.trans hf
        refine lv_aload_n hx hb dX9_well_31 rfl (lv_at hl 0 rfl) ?_
        refine lv_iload_n hx hb dX9_well_32 rfl (lv_at hl 1 rfl) ?_
        obtain ⟨S_10, h_11, hf⟩ := sm_b1_e hf
        refine va_callv (va_runV (As := [.int a1]) (rest := []) ⟨hx, hb, hml, hown, hts⟩ (wX9_findSick l g ad S a1 S_10 h_11) (cwV 1 hts (lw_V q1150 q1152 qs45 q70 q1153) rfl rfl rfl (by decide +kernel) ⟨Nat.le_of_ble_eq_true rfl, Nat.le_of_ble_eq_true rfl⟩) (sm_pe hE hP hD (va_recv hK hP (ci := 9) (q0 := 0) rfl rfl)) rfl rfl hl.1 rfl (lv_room (Nat.le_of_ble_eq_true rfl)) dX9_well_33 ⟨Nat.le_of_ble_eq_true rfl, Nat.le_of_ble_eq_true rfl⟩) hS (fun _ _ h => h) (fun _ h => h) (fun u t H locs ht hvm er_12 hB hz hk hS => ?_)
        obtain ⟨hP, hD⟩ := hB
        rw [ht] at hP
        refine lv_aload_n hx hb dX9_well_36 rfl (lv_at hl 0 rfl) ?_
        refine va_get (D := (g.1, g.2.1)) (ci := 9) (v := .ref (ad 34)) (C := RX9) (T := TX9) (N := 39) hx hb hts in_X9 hown hK hP 0 rfl rfl 34 (by decide) (hts _ q890) (fun _ h9 => h9) rfl dX9_well_37 ?_
        refine lv_iload_n hx hb dX9_well_40 rfl (lv_at hl 2 rfl) ?_
        obtain ⟨hg, hf⟩ := sm_gd_e hf
        refine va_lald hx hb hK hP 17 3 rfl rfl (sm_in hg) dX9_well_41 ?_
        refine lv_bipush (v := 10) hx hb dX9_well_42 (by decide) ?_
        refine lv_aload_n hx hb dX9_well_44 rfl (lv_at hl 0 rfl) ?_
        refine va_get (D := (g.1, g.2.1)) (ci := 9) (v := .ref (ad 4)) (C := RX9) (T := TX9) (N := 39) hx hb hts in_X9 hown hK hP 0 rfl rfl 4 (by decide) (hts _ q860) (fun _ h9 => h9) rfl dX9_well_45 ?_
        refine lv_iconst (v := 2) hx hb dX9_well_48 (by decide) ?_
        refine lv_iload_n hx hb dX9_well_49 rfl (lv_at hl 1 rfl) ?_
        refine lv_imul hx hb dX9_well_50 ?_
        refine lv_iconst (v := 1) hx hb dX9_well_51 (by decide) ?_
        refine lv_iadd hx hb dX9_well_52 ?_
        obtain ⟨hg, hf⟩ := sm_gd_e hf
        refine va_iald hx hb hK hP 1 0 rfl rfl (sm_in hg) dX9_well_53 ?_
        refine lv_isub hx hb dX9_well_54 ?_
        refine lv_i2l (v := (10 - (S_10.2.1 4 ((2 * a1) + 1).toNatClampNeg)).toInt64) hx hb dX9_well_55 rfl ?_
        refine lv_lmul hx hb dX9_well_56 ?_
        refine lv_topl (fun x_14 ex_14 => ?_)
        have hf := sm_lt_v hf ex_14
        refine lv_lstore (lv' := [(4, .long x_14), (0, .ref (ad 0)), (1, .int a1), (2, .int a2), (3, .int a3)]) hx hb dX9_well_57 hl (by decide) rfl (fun ls hl => ?_)
        refine lv_aload_n hx hb dX9_well_59 rfl (lv_at hl 1 rfl) ?_
        refine lv_bipush (v := (-9)) hx hb dX9_well_60 (by decide) ?_
        obtain ⟨S_15, h_16, hf⟩ := sm_b1_e hf
        refine va_callv (va_runV (As := [.int (-9)]) (rest := []) ⟨hx, hb, hml, hown, hts⟩ (wX9_findSick l g ad S_10 (-9) S_15 h_16) (cwV 1 hts (lw_V q1150 q1152 qs45 q70 q1153) rfl rfl rfl (by decide +kernel) ⟨Nat.le_of_ble_eq_true rfl, Nat.le_of_ble_eq_true rfl⟩) (sm_pe hE hP hD (va_recv hK hP (ci := 9) (q0 := 0) rfl rfl)) rfl rfl hl.1 rfl (lv_room (Nat.le_of_ble_eq_true rfl)) dX9_well_62 ⟨Nat.le_of_ble_eq_true rfl, Nat.le_of_ble_eq_true rfl⟩) hS (fun _ _ h => h) (fun _ h => h) (fun u t H locs ht hvm er_17 hB hz hk hS => ?_)
        obtain ⟨hP, hD⟩ := hB
        rw [ht] at hP
        refine lv_aload_n hx hb dX9_well_65 rfl (lv_at hl 1 rfl) ?_
        refine va_get (D := (g.1, g.2.1)) (ci := 9) (v := .ref (ad 34)) (C := RX9) (T := TX9) (N := 39) hx hb hts in_X9 hown hK hP 0 rfl rfl 34 (by decide) (hts _ q890) (fun _ h9 => h9) rfl dX9_well_66 ?_
        refine lv_iload_n hx hb dX9_well_69 rfl (lv_at hl 3 rfl) ?_
        obtain ⟨hg, hf⟩ := sm_gd_e hf
        refine va_lald hx hb hK hP 17 3 rfl rfl (sm_in hg) dX9_well_70 ?_
        refine lv_topl (fun x_19 ex_19 => ?_)
        have hf := sm_lt_v hf ex_19
        refine lv_lstore (lv' := [(6, .long x_19), (4, .long x_14), (0, .ref (ad 0)), (1, .int a1), (2, .int a2), (3, .int a3)]) hx hb dX9_well_71 hl (by decide) rfl (fun ls hl => ?_)
        refine lv_lload hx hb dX9_well_73 (lv_at hl 0 rfl) ?_
        refine lv_lconst (v := 0) hx hb dX9_well_75 (by decide) ?_
        refine W.lcmp hx hb dX9_well_76 ?_
        refine lv_if_ne (tgt := 86) hx hb dX9_well_77 (by decide) (fun c_20 => ?_) (fun c_20 => ?_)
        · have hf := (if_neg c_20).symm.trans hf
          refine lv_lload hx hb dX9_well_86 (lv_at hl 1 rfl) ?_
          refine lv_lload hx hb dX9_well_88 (lv_at hl 0 rfl) ?_
          refine lv_iload_n hx hb dX9_well_90 rfl (lv_at hl 5 rfl) ?_
          obtain ⟨r_21, h_22, hf⟩ := sm_b1_e hf
          refine vp_callSl (W.runS (As := [.long x_14, .long x_19, .int a3]) (rest := []) ⟨hx, hb, hml, hown, hts⟩ (wX9_share l x_14 x_19 a3 r_21 h_22) (va_cwS 3 hts (lw_S q1143 q1144 q70 q1145) rfl rfl rfl (by decide +kernel) ⟨Nat.le_of_ble_eq_true rfl, Nat.le_of_ble_eq_true rfl⟩) (sm_ps) rfl rfl hl.1 rfl (lv_room (Nat.le_of_ble_eq_true rfl)) dX9_well_91 ⟨Nat.le_of_ble_eq_true rfl, Nat.le_of_ble_eq_true rfl⟩) (fun r_24 er_23 => ?_)
          have er_23 := er_23.symm
          subst er_23
          have hf := Option.some.inj hf
          rw [← hQ]
          have hf := Prod.mk.inj hf
          exact W.lret (v := r_21) hx hb hr (fun t ht hW => ⟨⟨_, (), rfl, hf.2, by rw [ht, ← hf.1]; exact hP, by rw [← hf.1]; exact hD⟩, hS.F ht⟩) hS.2.2 dX9_well_94
        · have hf := (if_pos c_20).symm.trans hf
          refine lv_ldc2 (v := (-9)) hx hb hown (hts _ q1154) dX9_well_80 ?_
          refine lv_goto (tgt := 94) hx hb dX9_well_83 (by decide) ?_
          have hf := Option.some.inj hf
          rw [← hQ]
          have hf := Prod.mk.inj hf
          exact W.lret (v := (-9)) hx hb hr (fun t ht hW => ⟨⟨_, (), rfl, hf.2, by rw [ht, ← hf.1]; exact hP, by rw [← hf.1]; exact hD⟩, hS.F ht⟩) hS.2.2 dX9_well_94
      · have hf := (if_pos c_9).symm.trans hf
        refine lv_ldc2 (v := (-1)) hx hb hown (hts _ q1141) dX9_well_27 ?_
        have hf := Option.some.inj hf
        rw [← hQ]
        have hf := Prod.mk.inj hf
        exact W.lret (v := (-1)) hx hb hr (fun t ht hW => ⟨⟨_, (), rfl, hf.2, by rw [ht, ← hf.1]; exact hP, by rw [← hf.1]; exact hD⟩, hS.F ht⟩) hS.2.2 dX9_well_30
abbrev rX9_whose : Room := { frames := 3, cells := 0, slots := 0, locals := 65 }
set_option maxHeartbeats 4000000 in
theorem wX9_whose (l : Launch) (g : GG) (ad : Nat → Nat) (S : MS) (a1 : Int32) (Sf : MS) (rf : Int32) (hf : fX9_whose S a1 = some (Sf, rf)) : Met l yX9_whose (ws_ yX9_whose cX9_whose 4 (some .int)) rX9_whose (va_Pc [.ref (ad 0), .int a1] (fun U => PP g (WM g ad S) U.heap ∧ EV g U ∧ va_D (AM ad) (WM g ad S))) (va_Qi (fun y (_ : Unit) => y = rf) (fun _ t => PP g (WM g ad Sf) t.heap ∧ va_D (AM ad) (WM g ad Sf)) (AM ad)) 0 0 (AM ad) := by
  refine sm_st (by decide) ?_
  intro p e s m args below meth c hx hb hr hlocks hml hown hnm hts hv
  obtain ⟨hargs, hP, hE, hD⟩ := hv
  obtain ⟨hK, hN⟩ := id hE
  have hS : va_S (AM ad) s.heap s.heap [] := va_S.rf
  have hown : s.vm.findClass RX9 = some m.cls := hown
  refine sm_en _ (Nat.le_of_ble_eq_true rfl) hargs (fun ls hl => ?_)
  have hl : lv_has ls 4 [(0, .ref (ad 0)), (1, .int a1)] := hl
  generalize hQ : MQ below _ args s _ _ _ = Q
  unfold fX9_whose at hf
  refine lv_aload_n hx hb dX9_whose_0 rfl (lv_at hl 0 rfl) ?_
  refine lv_iload_n hx hb dX9_whose_1 rfl (lv_at hl 1 rfl) ?_
  obtain ⟨S_1, r_3, h_2, hf⟩ := sm_b2_e hf
  refine va_calli (va_runV (As := [.int a1]) (rest := []) ⟨hx, hb, hml, hown, hts⟩ (wX9_reads l g ad S a1 S_1 r_3 h_2) (cwV 1 hts (lw_V q1211 q1213 qs51 q70 q1214) rfl rfl rfl (by decide +kernel) ⟨Nat.le_of_ble_eq_true rfl, Nat.le_of_ble_eq_true rfl⟩) (sm_pe hE hP hD (va_recv hK hP (ci := 9) (q0 := 0) rfl rfl)) rfl rfl hl.1 rfl (lv_room (Nat.le_of_ble_eq_true rfl)) dX9_whose_2 ⟨Nat.le_of_ble_eq_true rfl, Nat.le_of_ble_eq_true rfl⟩) hS (fun _ _ h => h) (fun _ h => h) (fun r_5 u t H locs ht hvm er_4 hB hz hk hS => ?_)
  have er_4 := er_4.symm
  subst er_4
  obtain ⟨hP, hD⟩ := hB
  rw [ht] at hP
  refine lv_if_ne (tgt := 10) hx hb dX9_whose_5 (by decide) (fun c_6 => ?_) (fun c_6 => ?_)
  · have hf := (if_neg c_6).symm.trans hf
    refine lv_iconst (v := 0) hx hb dX9_whose_10 (by decide) ?_
    refine lv_istore_n (lv' := [(2, .int 0), (0, .ref (ad 0)), (1, .int a1)]) hx hb dX9_whose_11 rfl hl (by decide) rfl (fun ls hl => ?_)
    refine lv_iconst (v := 0) hx hb dX9_whose_12 (by decide) ?_
    refine lv_istore_n (lv' := [(3, .int 0), (2, .int 0), (0, .ref (ad 0)), (1, .int a1)]) hx hb dX9_whose_13 rfl hl (by decide) rfl (fun ls hl => ?_)
    have L_15 : ∀ (n : Nat) (x_7 : Int32) (x_8 : Int32) (S_9 : MS) (o_16 : Int32) (o_17 : Int32) (o_18 : MS) (H : Heap) (locs : List Loc) (ls : Array Slot), sm_lp (fun q => fX9_whose_14 q.1 q.2.1 q.2.2) n (x_7, x_8, S_9) = some (o_16, o_17, o_18) → PP g (WM g ad S_9) H → va_D (AM ad) (WM g ad S_9) → va_S (AM ad) s.heap H locs → lv_has ls 4 [(0, .ref (ad 0)), (1, .int a1), (3, .int x_7), (2, .int x_8)] → (∀ (H : Heap) (locs : List Loc) (ls : Array Slot), PP g (WM g ad o_18) H → va_D (AM ad) (WM g ad o_18) → va_S (AM ad) s.heap H locs → lv_has ls 4 [(0, .ref (ad 0)), (1, .int a1), (3, .int o_16), (2, .int o_17)] → W p l e rX9_whose s m args below meth c H locs 0 0 Q (F0 m 58 ls [])) → W p l e rX9_whose s m args below meth c H locs 0 0 Q (F0 m 14 ls []) := by
      intro n
      induction n with
      | zero =>
        intro _ _ _ _ _ _ _ _ _ hf
        cases hf
      | succ n ih_10 =>
        intro x_7 x_8 S_9 o_16 o_17 o_18 H locs ls hf hP hD hS hl kx_11
        obtain ⟨q, hf, hc_14⟩ := sm_bnd hf
        have hf : fX9_whose_14 x_7 x_8 S_9 = some q := hf
        unfold fX9_whose_14 at hf
        refine lv_iload_n hx hb dX9_whose_14 rfl (lv_at hl 2 rfl) ?_
        refine lv_aload_n hx hb dX9_whose_15 rfl (lv_at hl 0 rfl) ?_
        refine va_get (D := (g.1, g.2.1)) (ci := 9) (v := .int (S_9.1 5)) (C := RX9) (T := TX9) (N := 39) hx hb hts in_X9 hown hK hP 0 rfl rfl 5 (by decide) (hts _ q861) (fun _ h9 => h9) rfl dX9_whose_16 ?_
        refine lv_icmp_ge (tgt := 58) hx hb dX9_whose_19 (by decide) (fun c_19 => ?_) (fun c_19 => ?_)
        · have hf := (if_pos c_19).symm.trans hf
          cases hf
          have hc_14 : some (x_7, x_8, S_9) = some (o_16, o_17, o_18) := hc_14
          cases hc_14
          exact kx_11 _ _ _ hP hD hS (lv_sub hl [0, 1, 2, 3] rfl)
        · have hf := (if_neg c_19).symm.trans hf
          refine lv_aload_n hx hb dX9_whose_22 rfl (lv_at hl 0 rfl) ?_
          obtain ⟨S_20, h_21, hf⟩ := sm_b1_e hf
          refine va_callv (va_runV (As := []) (rest := []) ⟨hx, hb, hml, hown, hts⟩ (wX9_begins l g ad S_9  S_20 h_21) (cwV 0 hts (lw_V q1216 q1218 qs52 q70 q1219) rfl rfl rfl (by decide +kernel) ⟨Nat.le_of_ble_eq_true rfl, Nat.le_of_ble_eq_true rfl⟩) (sm_pe hE hP hD (va_recv hK hP (ci := 9) (q0 := 0) rfl rfl)) rfl rfl hl.1 rfl (lv_room (Nat.le_of_ble_eq_true rfl)) dX9_whose_23 ⟨Nat.le_of_ble_eq_true rfl, Nat.le_of_ble_eq_true rfl⟩) hS (fun _ _ h => h) (fun _ h => h) (fun u t H locs ht hvm er_22 hB hz hk hS => ?_)
          obtain ⟨hP, hD⟩ := hB
          rw [ht] at hP
          refine lv_aload_n hx hb dX9_whose_26 rfl (lv_at hl 0 rfl) ?_
          refine lv_iload_n hx hb dX9_whose_27 rfl (lv_at hl 2 rfl) ?_
          obtain ⟨S_24, h_25, hf⟩ := sm_b1_e hf
          refine va_callv (va_runV (As := [.int x_7]) (rest := []) ⟨hx, hb, hml, hown, hts⟩ (wX9_smokesOn l g ad S_20 x_7 S_24 h_25) (cwV 1 hts (lw_V q1220 q1222 qs53 q70 q1223) rfl rfl rfl (by decide +kernel) ⟨Nat.le_of_ble_eq_true rfl, Nat.le_of_ble_eq_true rfl⟩) (sm_pe hE hP hD (va_recv hK hP (ci := 9) (q0 := 0) rfl rfl)) rfl rfl hl.1 rfl (lv_room (Nat.le_of_ble_eq_true rfl)) dX9_whose_28 ⟨Nat.le_of_ble_eq_true rfl, Nat.le_of_ble_eq_true rfl⟩) hS (fun _ _ h => h) (fun _ h => h) (fun u t H locs ht hvm er_26 hB hz hk hS => ?_)
          obtain ⟨hP, hD⟩ := hB
          rw [ht] at hP
          refine lv_iload_n hx hb dX9_whose_31 rfl (lv_at hl 3 rfl) ?_
          refine lv_aload_n hx hb dX9_whose_32 rfl (lv_at hl 0 rfl) ?_
          refine lv_aload_n hx hb dX9_whose_33 rfl (lv_at hl 0 rfl) ?_
          refine va_get (D := (g.1, g.2.1)) (ci := 9) (v := .ref (ad 36)) (C := RX9) (T := TX9) (N := 39) hx hb hts in_X9 hown hK hP 0 rfl rfl 36 (by decide) (hts _ q892) (fun _ h9 => h9) rfl dX9_whose_34 ?_
          obtain ⟨r_28, h_29, hf⟩ := sm_b1_e hf
          refine vp_callSi (W.runV (As := [.ref (ad 36)]) (rest := [.int x_8]) ⟨hx, hb, hml, hown, hts⟩ (wX9_isLetter_19 l g ad S_24  r_28 h_29) (cwV 1 hts (lw_V q1224 q1226 qs54 q70 q1227) rfl rfl rfl (by decide +kernel) ⟨Nat.le_of_ble_eq_true rfl, Nat.le_of_ble_eq_true rfl⟩) (sm_pv hE hP (va_recv hK hP (ci := 9) (q0 := 0) rfl rfl)) rfl rfl hl.1 rfl (lv_room (Nat.le_of_ble_eq_true rfl)) dX9_whose_37 ⟨Nat.le_of_ble_eq_true rfl, Nat.le_of_ble_eq_true rfl⟩) (fun r_31 er_30 => ?_)
          have er_30 := er_30.symm
          subst er_30
          refine lv_if_eq (tgt := 49) hx hb dX9_whose_40 (by decide) (fun c_32 => ?_) (fun c_32 => ?_)
          · have hf := (if_pos c_32).symm.trans hf
            refine lv_iconst (v := 0) hx hb dX9_whose_49 (by decide) ?_
            refine lv_ior hx hb dX9_whose_50 ?_
            refine lv_istore_n (lv' := [(2, .int (x_8 ||| 0)), (0, .ref (ad 0)), (1, .int a1), (3, .int x_7)]) hx hb dX9_whose_51 rfl hl (by decide) rfl (fun ls hl => ?_)
            refine lv_iinc (v := x_7 + 1) (lv' := [(3, .int (x_7 + 1)), (2, .int (x_8 ||| 0)), (0, .ref (ad 0)), (1, .int a1)]) hx hb dX9_whose_52 hl (k := 3) rfl rfl (by decide) rfl (fun ls hl => ?_)
            refine lv_goto (tgt := 14) hx hb dX9_whose_55 (by decide) ?_
            cases hf
            exact ih_10 _ _ _ _ _ _ _ _ _ hc_14 hP hD hS (lv_sub hl [2, 3, 0, 1] rfl) kx_11
          · have hf := (if_neg c_32).symm.trans hf
            refine lv_iconst (v := 1) hx hb dX9_whose_43 (by decide) ?_
            refine lv_iload_n hx hb dX9_whose_44 rfl (lv_at hl 2 rfl) ?_
            refine lv_ishl hx hb dX9_whose_45 ?_
            refine lv_goto (tgt := 50) hx hb dX9_whose_46 (by decide) ?_
            refine lv_ior hx hb dX9_whose_50 ?_
            refine lv_topi (fun x_33 ex_33 => ?_)
            have hf := sm_lt_v hf ex_33
            refine lv_istore_n (lv' := [(2, .int x_33), (0, .ref (ad 0)), (1, .int a1), (3, .int x_7)]) hx hb dX9_whose_51 rfl hl (by decide) rfl (fun ls hl => ?_)
            refine lv_iinc (v := x_7 + 1) (lv' := [(3, .int (x_7 + 1)), (2, .int x_33), (0, .ref (ad 0)), (1, .int a1)]) hx hb dX9_whose_52 hl (k := 3) rfl rfl (by decide) rfl (fun ls hl => ?_)
            refine lv_goto (tgt := 14) hx hb dX9_whose_55 (by decide) ?_
            cases hf
            exact ih_10 _ _ _ _ _ _ _ _ _ hc_14 hP hD hS (lv_sub hl [2, 3, 0, 1] rfl) kx_11
    obtain ⟨x_35, x_36, S_37, ho, hf⟩ := sm_b3_e hf
    refine L_15 FU 0 0 S_1 x_35 x_36 S_37 H locs ls ho hP hD hS (lv_sub hl [2, 3, 0, 1] rfl) ?_
    intro H locs ls hP hD hS hl
    refine lv_iload_n hx hb dX9_whose_58 rfl (lv_at hl 3 rfl) ?_
    have hf := Option.some.inj hf
    rw [← hQ]
    have hf := Prod.mk.inj hf
    exact W.iret (v := x_36) hx hb hr (fun t ht hW => ⟨⟨_, (), rfl, hf.2, by rw [ht, ← hf.1]; exact hP, by rw [← hf.1]; exact hD⟩, hS.F ht⟩) hS.2.2 dX9_whose_59
  · have hf := (if_pos c_6).symm.trans hf
    refine lv_iconst (v := (-1)) hx hb dX9_whose_8 (by decide) ?_
    have hf := Option.some.inj hf
    rw [← hQ]
    have hf := Prod.mk.inj hf
    exact W.iret (v := (-1)) hx hb hr (fun t ht hW => ⟨⟨_, (), rfl, hf.2, by rw [ht, ← hf.1]; exact hP, by rw [← hf.1]; exact hD⟩, hS.F ht⟩) hS.2.2 dX9_whose_9
abbrev rX9_word : Room := { frames := 1, cells := 0, slots := 0, locals := 22 }
set_option maxHeartbeats 4000000 in
theorem wX9_word (l : Launch) (g : GG) (ad : Nat → Nat) (S : MS) (a1 : Int32) (rf : Int32) (hf : fX9_word S a1 = some rf) : Met l yX9_word (ws_ yX9_word cX9_word 2 (some .int)) rX9_word (va_Pc [.ref (ad 0), .int a1] (fun U => PP g (WM g ad S) U.heap ∧ EV g U)) (vp_Si (fun y => y = rf)) 0 0 (fun _ => False) := by
  refine sm_st (by decide) ?_
  intro p e s m args below meth c hx hb hr hlocks hml hown hnm hts hv
  obtain ⟨hargs, hP, hE⟩ := hv
  obtain ⟨hK, hN⟩ := id hE
  have hown : s.vm.findClass RX9 = some m.cls := hown
  refine sm_en _ (Nat.le_of_ble_eq_true rfl) hargs (fun ls hl => ?_)
  have hl : lv_has ls 2 [(0, .ref (ad 0)), (1, .int a1)] := hl
  generalize hQ : MQ below _ args s _ _ _ = Q
  unfold fX9_word at hf
  refine lv_iload_n hx hb dX9_word_0 rfl (lv_at hl 1 rfl) ?_
  refine lv_iconst (v := 0) hx hb dX9_word_1 (by decide) ?_
  refine lv_aload_n hx hb dX9_word_2 rfl (lv_at hl 0 rfl) ?_
  refine va_get (D := (g.1, g.2.1)) (ci := 9) (v := .ref (ad 7)) (C := RX9) (T := TX9) (N := 39) hx hb hts in_X9 hown hK hP 0 rfl rfl 7 (by decide) (hts _ q863) (fun _ h9 => h9) rfl dX9_word_3 ?_
  refine lv_bipush (v := 20) hx hb dX9_word_6 (by decide) ?_
  refine va_iald hx hb hK hP 3 0 rfl rfl (sm_in rfl) dX9_word_8 ?_
  refine lv_iconst (v := 1) hx hb dX9_word_9 (by decide) ?_
  refine lv_isub hx hb dX9_word_10 ?_
  refine vp_callSi (W.runS (As := [.int a1, .int 0, .int ((S.2.1 7 20) - 1)]) (rest := []) ⟨hx, hb, hml, hown, hts⟩ (wX9_in l a1 0 ((S.2.1 7 20) - 1) (fX9_in a1 0 ((S.2.1 7 20) - 1)) rfl) (va_cwS 3 hts (lw_S q979 q980 q70 q981) rfl rfl rfl (by decide +kernel) ⟨Nat.le_of_ble_eq_true rfl, Nat.le_of_ble_eq_true rfl⟩) (sm_ps) rfl rfl hl.1 rfl (lv_room (Nat.le_of_ble_eq_true rfl)) dX9_word_11 ⟨Nat.le_of_ble_eq_true rfl, Nat.le_of_ble_eq_true rfl⟩) (fun r_2 er_1 => ?_)
  have er_1 := er_1.symm
  subst er_1
  refine lv_if_eq (tgt := 29) hx hb dX9_word_14 (by decide) (fun c_3 => ?_) (fun c_3 => ?_)
  · have hf := (if_pos c_3).symm.trans hf
    refine lv_iconst (v := (-1)) hx hb dX9_word_29 (by decide) ?_
    have hf := Option.some.inj hf
    rw [← hQ]
    exact W.iret (v := (-1)) hx hb hr (fun t ht hW => ⟨_, rfl, hf, ht⟩) (fun _ h => by cases h) dX9_word_30
  · have hf := (if_neg c_3).symm.trans hf
    refine lv_aload_n hx hb dX9_word_17 rfl (lv_at hl 0 rfl) ?_
    refine va_get (D := (g.1, g.2.1)) (ci := 9) (v := .ref (ad 7)) (C := RX9) (T := TX9) (N := 39) hx hb hts in_X9 hown hK hP 0 rfl rfl 7 (by decide) (hts _ q863) (fun _ h9 => h9) rfl dX9_word_18 ?_
    refine lv_bipush (v := 21) hx hb dX9_word_21 (by decide) ?_
    refine lv_iload_n hx hb dX9_word_23 rfl (lv_at hl 1 rfl) ?_
    refine lv_iadd hx hb dX9_word_24 ?_
    obtain ⟨hg, hf⟩ := sm_gd_e hf
    refine va_iald hx hb hK hP 3 0 rfl rfl (sm_in hg) dX9_word_25 ?_
    refine lv_goto (tgt := 30) hx hb dX9_word_26 (by decide) ?_
    have hf := Option.some.inj hf
    rw [← hQ]
    exact W.iret (v := S.2.1 7 (21 + a1).toNatClampNeg) hx hb hr (fun t ht hW => ⟨_, rfl, hf, ht⟩) (fun _ h => by cases h) dX9_word_30
abbrev rX9_writes : Room := { frames := 1, cells := 0, slots := 0, locals := 22 }
set_option maxHeartbeats 4000000 in
theorem wX9_writes (l : Launch) (g : GG) (ad : Nat → Nat) (S : MS) (a1 : Int32) (Sf : MS) (rf : Int32) (hf : fX9_writes S a1 = some (Sf, rf)) : Met l yX9_writes (ws_ yX9_writes cX9_writes 2 (some .int)) rX9_writes (va_Pc [.ref (ad 0), .int a1] (fun U => PP g (WM g ad S) U.heap ∧ EV g U ∧ va_D (AM ad) (WM g ad S))) (va_Qi (fun y (_ : Unit) => y = rf) (fun _ t => PP g (WM g ad Sf) t.heap ∧ va_D (AM ad) (WM g ad Sf)) (AM ad)) 0 0 (AM ad) := by
  refine sm_st (by decide) ?_
  intro p e s m args below meth c hx hb hr hlocks hml hown hnm hts hv
  obtain ⟨hargs, hP, hE, hD⟩ := hv
  obtain ⟨hK, hN⟩ := id hE
  have hS : va_S (AM ad) s.heap s.heap [] := va_S.rf
  have hown : s.vm.findClass RX9 = some m.cls := hown
  refine sm_en _ (Nat.le_of_ble_eq_true rfl) hargs (fun ls hl => ?_)
  have hl : lv_has ls 2 [(0, .ref (ad 0)), (1, .int a1)] := hl
  generalize hQ : MQ below _ args s _ _ _ = Q
  unfold fX9_writes at hf
  refine lv_iload_n hx hb dX9_writes_0 rfl (lv_at hl 1 rfl) ?_
  refine lv_iconst (v := 0) hx hb dX9_writes_1 (by decide) ?_
  refine lv_bipush (v := 9) hx hb dX9_writes_2 (by decide) ?_
  refine vp_callSi (W.runS (As := [.int a1, .int 0, .int 9]) (rest := []) ⟨hx, hb, hml, hown, hts⟩ (wX9_in l a1 0 9 (fX9_in a1 0 9) rfl) (va_cwS 3 hts (lw_S q979 q980 q70 q981) rfl rfl rfl (by decide +kernel) ⟨Nat.le_of_ble_eq_true rfl, Nat.le_of_ble_eq_true rfl⟩) (sm_ps) rfl rfl hl.1 rfl (lv_room (Nat.le_of_ble_eq_true rfl)) dX9_writes_4 ⟨Nat.le_of_ble_eq_true rfl, Nat.le_of_ble_eq_true rfl⟩) (fun r_2 er_1 => ?_)
  have er_1 := er_1.symm
  subst er_1
  refine lv_if_ne (tgt := 12) hx hb dX9_writes_7 (by decide) (fun c_3 => ?_) (fun c_3 => ?_)
  · have hf := (if_neg c_3).symm.trans hf
    refine lv_aload_n hx hb dX9_writes_12 rfl (lv_at hl 0 rfl) ?_
    refine va_get (D := (g.1, g.2.1)) (ci := 9) (v := .ref (ad 7)) (C := RX9) (T := TX9) (N := 39) hx hb hts in_X9 hown hK hP 0 rfl rfl 7 (by decide) (hts _ q863) (fun _ h9 => h9) rfl dX9_writes_13 ?_
    refine lv_bipush (v := 20) hx hb dX9_writes_16 (by decide) ?_
    refine va_iald hx hb hK hP 3 0 rfl rfl (sm_in rfl) dX9_writes_18 ?_
    refine lv_iconst (v := 5) hx hb dX9_writes_19 (by decide) ?_
    refine lv_icmp_ne (tgt := 26) hx hb dX9_writes_20 (by decide) (fun c_4 => ?_) (fun c_4 => ?_)
    · have hf := (if_neg c_4).symm.trans hf
      refine lv_aload_n hx hb dX9_writes_26 rfl (lv_at hl 0 rfl) ?_
      obtain ⟨S_5, h_6, hf⟩ := sm_b1_e hf
      refine va_callv (va_runV (As := []) (rest := []) ⟨hx, hb, hml, hown, hts⟩ (wX9_remembers l g ad S  S_5 h_6) (cwV 0 hts (lw_V q1069 q1071 qs37 q70 q1072) rfl rfl rfl (by decide +kernel) ⟨Nat.le_of_ble_eq_true rfl, Nat.le_of_ble_eq_true rfl⟩) (sm_pe hE hP hD (va_recv hK hP (ci := 9) (q0 := 0) rfl rfl)) rfl rfl hl.1 rfl (lv_room (Nat.le_of_ble_eq_true rfl)) dX9_writes_27 ⟨Nat.le_of_ble_eq_true rfl, Nat.le_of_ble_eq_true rfl⟩) hS (fun _ _ h => h) (fun _ h => h) (fun u t H locs ht hvm er_7 hB hz hk hS => ?_)
      obtain ⟨hP, hD⟩ := hB
      rw [ht] at hP
      refine lv_aload_n hx hb dX9_writes_30 rfl (lv_at hl 0 rfl) ?_
      refine va_get (D := (g.1, g.2.1)) (ci := 9) (v := .ref (ad 7)) (C := RX9) (T := TX9) (N := 39) hx hb hts in_X9 hown hK hP 0 rfl rfl 7 (by decide) (hts _ q863) (fun _ h9 => h9) rfl dX9_writes_31 ?_
      refine lv_bipush (v := 21) hx hb dX9_writes_34 (by decide) ?_
      refine lv_aload_n hx hb dX9_writes_36 rfl (lv_at hl 0 rfl) ?_
      refine va_get (D := (g.1, g.2.1)) (ci := 9) (v := .ref (ad 7)) (C := RX9) (T := TX9) (N := 39) hx hb hts in_X9 hown hK hP 0 rfl rfl 7 (by decide) (hts _ q863) (fun _ h9 => h9) rfl dX9_writes_37 ?_
      refine lv_bipush (v := 20) hx hb dX9_writes_40 (by decide) ?_
      refine va_iald hx hb hK hP 3 0 rfl rfl (sm_in rfl) dX9_writes_42 ?_
      refine lv_iadd hx hb dX9_writes_43 ?_
      refine lv_iload_n hx hb dX9_writes_44 rfl (lv_at hl 1 rfl) ?_
      obtain ⟨hg, hf⟩ := sm_gd_e hf
      refine va_iast (i := 21 + (S_5.2.1 7 20)) (x := a1) hx hb hK hP hD hS 3 0 rfl rfl (sm_in hg) dX9_writes_45 (fun H locs hP hD hS => ?_)
      obtain ⟨S_9, eS_9, hf⟩ := sm_lt_e hf
      have hP : PP g (WM g ad S_9) H := by rw [eS_9]; exact pmr7 hP
      have hD : va_D (AM ad) (WM g ad S_9) := by rw [eS_9]; exact dmr7 hD
      refine lv_aload_n hx hb dX9_writes_46 rfl (lv_at hl 0 rfl) ?_
      refine va_get (D := (g.1, g.2.1)) (ci := 9) (v := .ref (ad 7)) (C := RX9) (T := TX9) (N := 39) hx hb hts in_X9 hown hK hP 0 rfl rfl 7 (by decide) (hts _ q863) (fun _ h9 => h9) rfl dX9_writes_47 ?_
      refine lv_bipush (v := 20) hx hb dX9_writes_50 (by decide) ?_
      refine lv_dup2_11 hx hb dX9_writes_52 rfl rfl ?_
      refine va_iald hx hb hK hP 3 0 rfl rfl (sm_in rfl) dX9_writes_53 ?_
      refine lv_iconst (v := 1) hx hb dX9_writes_54 (by decide) ?_
      refine lv_iadd hx hb dX9_writes_55 ?_
      refine va_iast (i := 20) (x := (S_9.2.1 7 20) + 1) hx hb hK hP hD hS 3 0 rfl rfl (sm_in rfl) dX9_writes_56 (fun H locs hP hD hS => ?_)
      obtain ⟨S_10, eS_10, hf⟩ := sm_lt_e hf
      have hP : PP g (WM g ad S_10) H := by rw [eS_10]; exact pmr7 hP
      have hD : va_D (AM ad) (WM g ad S_10) := by rw [eS_10]; exact dmr7 hD
      refine lv_aload_n hx hb dX9_writes_57 rfl (lv_at hl 0 rfl) ?_
      refine va_get (D := (g.1, g.2.1)) (ci := 9) (v := .ref (ad 7)) (C := RX9) (T := TX9) (N := 39) hx hb hts in_X9 hown hK hP 0 rfl rfl 7 (by decide) (hts _ q863) (fun _ h9 => h9) rfl dX9_writes_58 ?_
      refine lv_bipush (v := 20) hx hb dX9_writes_61 (by decide) ?_
      refine va_iald hx hb hK hP 3 0 rfl rfl (sm_in rfl) dX9_writes_63 ?_
      have hf := Option.some.inj hf
      rw [← hQ]
      have hf := Prod.mk.inj hf
      exact W.iret (v := S_10.2.1 7 20) hx hb hr (fun t ht hW => ⟨⟨_, (), rfl, hf.2, by rw [ht, ← hf.1]; exact hP, by rw [← hf.1]; exact hD⟩, hS.F ht⟩) hS.2.2 dX9_writes_64
    · have hf := (if_pos c_4).symm.trans hf
      refine lv_bipush (v := (-3)) hx hb dX9_writes_23 (by decide) ?_
      have hf := Option.some.inj hf
      rw [← hQ]
      have hf := Prod.mk.inj hf
      exact W.iret (v := (-3)) hx hb hr (fun t ht hW => ⟨⟨_, (), rfl, hf.2, by rw [ht, ← hf.1]; exact hP, by rw [← hf.1]; exact hD⟩, hS.F ht⟩) hS.2.2 dX9_writes_25
  · have hf := (if_pos c_3).symm.trans hf
    refine lv_iconst (v := (-1)) hx hb dX9_writes_10 (by decide) ?_
    have hf := Option.some.inj hf
    rw [← hQ]
    have hf := Prod.mk.inj hf
    exact W.iret (v := (-1)) hx hb hr (fun t ht hW => ⟨⟨_, (), rfl, hf.2, by rw [ht, ← hf.1]; exact hP, by rw [← hf.1]; exact hD⟩, hS.F ht⟩) hS.2.2 dX9_writes_11
