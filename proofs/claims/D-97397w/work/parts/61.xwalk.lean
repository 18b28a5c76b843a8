/-! SmokedLetters, walked: printed by gen/xmain.py -/
set_option maxRecDepth 100000
abbrev rX2_mayLeave : Room := { frames := 0, cells := 0, slots := 0, locals := 0 }
set_option maxHeartbeats 4000000 in
theorem wX2_mayLeave (l : Launch) (g : GG) (a b : Nat → Nat) (B : BS) (S : IS) (a2 : Int32) (rf : Int32) (hf : fX2_mayLeave B S a2 = some rf) : Met l yX2_mayLeave (ws_ yX2_mayLeave cX2_mayLeave 3 (some .boolean)) rX2_mayLeave (va_Pc [.ref (a 0), .ref (b 0), .int a2] (fun Ux => PP g (WI g a S ++ WB g b B) Ux.heap ∧ EV g Ux)) (vp_Si (fun y => y = rf)) 0 0 (fun _ => False) := by
  refine sm_st (by decide) ?_
  intro p e s m args below meth c hx hb hr hlocks hml hown hnm hts hv
  obtain ⟨hargs, hP, hE⟩ := hv
  obtain ⟨hK, hN⟩ := id hE
  have hown : s.vm.findClass RX2 = some m.cls := hown
  refine sm_en _ (Nat.le_of_ble_eq_true rfl) hargs (fun ls hl => ?_)
  have hl : lv_has ls 3 [(0, .ref (a 0)), (1, .ref (b 0)), (2, .int a2)] := hl
  generalize hQ : MQ below _ args s _ _ _ = Q
  unfold fX2_mayLeave at hf
  refine lv_aload_n hx hb dX2_mayLeave_0 rfl (lv_at hl 0 rfl) ?_
  refine va_get (D := (g.1, g.2.1)) (ci := 2) (v := .ref (a 1)) (C := RX2) (T := TX2) (N := 7) hx hb hts in_X2 hown hK hP 0 rfl rfl 3 (by decide) (hts _ q167) (fun _ h9 => h9) rfl dX2_mayLeave_1 ?_
  refine lv_iload_n hx hb dX2_mayLeave_4 rfl (lv_at hl 2 rfl) ?_
  obtain ⟨hg, hf⟩ := sm_gd_e hf
  refine va_iald hx hb hK hP 1 0 rfl rfl (sm_in hg) dX2_mayLeave_5 ?_
  refine lv_bipush (v := (-9)) hx hb dX2_mayLeave_6 (by decide) ?_
  refine lv_icmp_eq (tgt := 30) hx hb dX2_mayLeave_8 (by decide) (fun c_1 => ?_) (fun c_1 => ?_)
  · have hf := (if_pos c_1).symm.trans hf
    refine lv_iconst (v := 0) hx hb dX2_mayLeave_30 (by decide) ?_
    have hf := Option.some.inj hf
    rw [← hQ]
    exact W.zret (v := 0) hx hb hr rfl (fun t ht hW => ⟨_, rfl, hf, ht⟩) (fun _ h => by cases h) dX2_mayLeave_31
  · have hf := (if_neg c_1).symm.trans hf
    refine lv_aload_n hx hb dX2_mayLeave_11 rfl (lv_at hl 0 rfl) ?_
    refine va_get (D := (g.1, g.2.1)) (ci := 2) (v := .ref (a 2)) (C := RX2) (T := TX2) (N := 7) hx hb hts in_X2 hown hK hP 0 rfl rfl 4 (by decide) (hts _ q169) (fun _ h9 => h9) rfl dX2_mayLeave_12 ?_
    refine lv_iload_n hx hb dX2_mayLeave_15 rfl (lv_at hl 2 rfl) ?_
    obtain ⟨hg, hf⟩ := sm_gd_e hf
    refine va_iald hx hb hK hP 2 0 rfl rfl (sm_in hg) dX2_mayLeave_16 ?_
    refine lv_aload_n hx hb dX2_mayLeave_17 rfl (lv_at hl 1 rfl) ?_
    refine va_getN (D := (g.1, g.2.1)) (ci := 1) (v := .ref (b 1)) (C := RX1) (T := TX1) (N := 9) hx hb hts in_X1 hown hK hP 4 rfl rfl 0 (by decide) (va_Nw.use rfl (hN _ q99 rfl)) (fun _ h9 => h9) rfl dX2_mayLeave_18 ?_
    refine lv_iconst (v := 0) hx hb dX2_mayLeave_21 (by decide) ?_
    refine va_iald hx hb hK hP 5 0 rfl rfl (sm_in rfl) dX2_mayLeave_22 ?_
    refine lv_icmp_lt (tgt := 30) hx hb dX2_mayLeave_23 (by decide) (fun c_2 => ?_) (fun c_2 => ?_)
    · have hf := (if_pos c_2).symm.trans hf
      refine lv_iconst (v := 0) hx hb dX2_mayLeave_30 (by decide) ?_
      have hf := Option.some.inj hf
      rw [← hQ]
      exact W.zret (v := 0) hx hb hr rfl (fun t ht hW => ⟨_, rfl, hf, ht⟩) (fun _ h => by cases h) dX2_mayLeave_31
    · have hf := (if_neg c_2).symm.trans hf
      refine lv_iconst (v := 1) hx hb dX2_mayLeave_26 (by decide) ?_
      refine lv_goto (tgt := 31) hx hb dX2_mayLeave_27 (by decide) ?_
      have hf := Option.some.inj hf
      rw [← hQ]
      exact W.zret (v := 1) hx hb hr rfl (fun t ht hW => ⟨_, rfl, hf, ht⟩) (fun _ h => by cases h) dX2_mayLeave_31
abbrev rX2_leavers : Room := { frames := 1, cells := 0, slots := 0, locals := 22 }
set_option maxHeartbeats 4000000 in
theorem wX2_leavers (l : Launch) (g : GG) (a b : Nat → Nat) (B : BS) (S : IS) (rf : Int32) (hf : fX2_leavers B S = some rf) : Met l yX2_leavers (ws_ yX2_leavers cX2_leavers 4 (some .int)) rX2_leavers (va_Pc [.ref (a 0), .ref (b 0)] (fun Ux => PP g (WI g a S ++ WB g b B) Ux.heap ∧ EV g Ux)) (vp_Si (fun y => y = rf)) 0 0 (fun _ => False) := by
  refine sm_st (by decide) ?_
  intro p e s m args below meth c hx hb hr hlocks hml hown hnm hts hv
  obtain ⟨hargs, hP, hE⟩ := hv
  obtain ⟨hK, hN⟩ := id hE
  have hown : s.vm.findClass RX2 = some m.cls := hown
  refine sm_en _ (Nat.le_of_ble_eq_true rfl) hargs (fun ls hl => ?_)
  have hl : lv_has ls 4 [(0, .ref (a 0)), (1, .ref (b 0))] := hl
  generalize hQ : MQ below _ args s _ _ _ = Q
  unfold fX2_leavers at hf
  refine lv_iconst (v := 0) hx hb dX2_leavers_0 (by decide) ?_
  refine lv_istore_n (lv' := [(2, .int 0), (0, .ref (a 0)), (1, .ref (b 0))]) hx hb dX2_leavers_1 rfl hl (by decide) rfl (fun ls hl => ?_)
  refine lv_iconst (v := 0) hx hb dX2_leavers_2 (by decide) ?_
  refine lv_istore_n (lv' := [(3, .int 0), (2, .int 0), (0, .ref (a 0)), (1, .ref (b 0))]) hx hb dX2_leavers_3 rfl hl (by decide) rfl (fun ls hl => ?_)
  have L_8 : ∀ (n : Nat) (x_1 : Int32) (x_2 : Int32) (o_9 : Int32) (o_10 : Int32) (ls : Array Slot), sm_lp (fun q => fX2_leavers_4 B S q.1 q.2) n (x_1, x_2) = some (o_9, o_10) → lv_has ls 4 [(0, .ref (a 0)), (1, .ref (b 0)), (3, .int x_1), (2, .int x_2)] → (∀ (ls : Array Slot), lv_has ls 4 [(0, .ref (a 0)), (1, .ref (b 0)), (3, .int o_9), (2, .int o_10)] → W p l e rX2_leavers s m args below meth c s.heap [] 0 0 Q (F0 m 37 ls [])) → W p l e rX2_leavers s m args below meth c s.heap [] 0 0 Q (F0 m 4 ls []) := by
    intro n
    induction n with
    | zero =>
      intro _ _ _ _ _ hf
      cases hf
    | succ n ih_3 =>
      intro x_1 x_2 o_9 o_10 ls hf hl kx_4
      obtain ⟨q, hf, hc_7⟩ := sm_bnd hf
      have hf : fX2_leavers_4 B S x_1 x_2 = some q := hf
      unfold fX2_leavers_4 at hf
      refine lv_iload_n hx hb dX2_leavers_4 rfl (lv_at hl 2 rfl) ?_
      refine lv_aload_n hx hb dX2_leavers_5 rfl (lv_at hl 1 rfl) ?_
      refine va_getN (D := (g.1, g.2.1)) (ci := 1) (v := .int (B.1 6)) (C := RX1) (T := TX1) (N := 9) hx hb hts in_X1 hown hK hP 4 rfl rfl 6 (by decide) (va_Nw.use rfl (hN _ q122 rfl)) (fun _ h9 => h9) rfl dX2_leavers_6 ?_
      refine lv_icmp_ge (tgt := 37) hx hb dX2_leavers_9 (by decide) (fun c_11 => ?_) (fun c_11 => ?_)
      · have hf := (if_pos c_11).symm.trans hf
        cases hf
        have hc_7 : some (x_1, x_2) = some (o_9, o_10) := hc_7
        cases hc_7
        exact kx_4 _ (lv_sub hl [0, 1, 2, 3] rfl)
      · have hf := (if_neg c_11).symm.trans hf
        refine lv_iload_n hx hb dX2_leavers_12 rfl (lv_at hl 3 rfl) ?_
        refine lv_aload_n hx hb dX2_leavers_13 rfl (lv_at hl 0 rfl) ?_
        refine lv_aload_n hx hb dX2_leavers_14 rfl (lv_at hl 1 rfl) ?_
        refine lv_iload_n hx hb dX2_leavers_15 rfl (lv_at hl 2 rfl) ?_
        obtain ⟨r_12, h_13, hf⟩ := sm_b1_e hf
        refine vp_callSi (W.runV (As := [.ref (b 0), .int x_1]) (rest := [.int x_2]) ⟨hx, hb, hml, hown, hts⟩ (wX2_mayLeave l g a b B S x_1 r_12 h_13) (cwV 2 hts (lw_V q600 q601 q602 q62 q603) rfl rfl rfl (by decide +kernel) ⟨Nat.le_of_ble_eq_true rfl, Nat.le_of_ble_eq_true rfl⟩) (sm_pv hE hP (va_recv hK hP (ci := 2) (q0 := 0) rfl rfl)) rfl rfl hl.1 rfl (lv_room (Nat.le_of_ble_eq_true rfl)) dX2_leavers_16 ⟨Nat.le_of_ble_eq_true rfl, Nat.le_of_ble_eq_true rfl⟩) (fun r_15 er_14 => ?_)
        have er_14 := er_14.symm
        subst er_14
        refine lv_if_eq (tgt := 28) hx hb dX2_leavers_19 (by decide) (fun c_16 => ?_) (fun c_16 => ?_)
        · have hf := (if_pos c_16).symm.trans hf
          refine lv_iconst (v := 0) hx hb dX2_leavers_28 (by decide) ?_
          refine lv_ior hx hb dX2_leavers_29 ?_
          refine lv_istore_n (lv' := [(2, .int (x_2 ||| 0)), (0, .ref (a 0)), (1, .ref (b 0)), (3, .int x_1)]) hx hb dX2_leavers_30 rfl hl (by decide) rfl (fun ls hl => ?_)
          refine lv_iinc (v := x_1 + 1) (lv' := [(3, .int (x_1 + 1)), (2, .int (x_2 ||| 0)), (0, .ref (a 0)), (1, .ref (b 0))]) hx hb dX2_leavers_31 hl (k := 3) rfl rfl (by decide) rfl (fun ls hl => ?_)
          refine lv_goto (tgt := 4) hx hb dX2_leavers_34 (by decide) ?_
          cases hf
          exact ih_3 _ _ _ _ _ hc_7 (lv_sub hl [2, 3, 0, 1] rfl) kx_4
        · have hf := (if_neg c_16).symm.trans hf
          refine lv_iconst (v := 1) hx hb dX2_leavers_22 (by decide) ?_
          refine lv_iload_n hx hb dX2_leavers_23 rfl (lv_at hl 2 rfl) ?_
          refine lv_ishl hx hb dX2_leavers_24 ?_
          refine lv_goto (tgt := 29) hx hb dX2_leavers_25 (by decide) ?_
          refine lv_ior hx hb dX2_leavers_29 ?_
          refine lv_topi (fun x_17 ex_17 => ?_)
          have hf := sm_lt_v hf ex_17
          refine lv_istore_n (lv' := [(2, .int x_17), (0, .ref (a 0)), (1, .ref (b 0)), (3, .int x_1)]) hx hb dX2_leavers_30 rfl hl (by decide) rfl (fun ls hl => ?_)
          refine lv_iinc (v := x_1 + 1) (lv' := [(3, .int (x_1 + 1)), (2, .int x_17), (0, .ref (a 0)), (1, .ref (b 0))]) hx hb dX2_leavers_31 hl (k := 3) rfl rfl (by decide) rfl (fun ls hl => ?_)
          refine lv_goto (tgt := 4) hx hb dX2_leavers_34 (by decide) ?_
          cases hf
          exact ih_3 _ _ _ _ _ hc_7 (lv_sub hl [2, 3, 0, 1] rfl) kx_4
  obtain ⟨x_19, x_20, ho, hf⟩ := sm_b2_e hf
  refine L_8 FU 0 0 x_19 x_20 ls ho (lv_sub hl [2, 3, 0, 1] rfl) ?_
  intro ls hl
  refine lv_iload_n hx hb dX2_leavers_37 rfl (lv_at hl 3 rfl) ?_
  have hf := Option.some.inj hf
  rw [← hQ]
  exact W.iret (v := x_20) hx hb hr (fun t ht hW => ⟨_, rfl, hf, ht⟩) (fun _ h => by cases h) dX2_leavers_38
abbrev rX2_copyOf : Room := { frames := 1, cells := 0, slots := 0, locals := 60 }
set_option maxHeartbeats 4000000 in
theorem wX2_copyOf (l : Launch) (g : GG) (a b : Nat → Nat) (U : IS) (S : IS) (Sf : IS) (hf : fX2_copyOf U S = some Sf) : Met l yX2_copyOf (ws_ yX2_copyOf cX2_copyOf 2 none) rX2_copyOf (va_Pc [.ref (a 0), .ref (b 0)] (fun Ux => PP g (WI g a S ++ WI g b U) Ux.heap ∧ EV g Ux ∧ va_D (AII a b) (WI g a S ++ WI g b U))) (va_Qv (fun (_ : Unit) => True) (fun _ t => PP g (WI g a Sf ++ WI g b U) t.heap ∧ va_D (AII a b) (WI g a Sf ++ WI g b U)) (AII a b)) 0 0 (AII a b) := by
  refine sm_st (by decide) ?_
  intro p e s m args below meth c hx hb hr hlocks hml hown hnm hts hv
  obtain ⟨hargs, hP, hE, hD⟩ := hv
  obtain ⟨hK, hN⟩ := id hE
  have hS : va_S (AII a b) s.heap s.heap [] := va_S.rf
  have hown : s.vm.findClass RX2 = some m.cls := hown
  refine sm_en _ (Nat.le_of_ble_eq_true rfl) hargs (fun ls hl => ?_)
  have hl : lv_has ls 2 [(0, .ref (a 0)), (1, .ref (b 0))] := hl
  generalize hQ : MQ below _ args s _ _ _ = Q
  unfold fX2_copyOf at hf
  refine lv_aload_n hx hb dX2_copyOf_0 rfl (lv_at hl 0 rfl) ?_
  refine lv_aload_n hx hb dX2_copyOf_1 rfl (lv_at hl 1 rfl) ?_
  refine va_get (D := (g.1, g.2.1)) (ci := 2) (v := .int (U.1 0)) (C := RX2) (T := TX2) (N := 7) hx hb hts in_X2 hown hK hP 4 rfl rfl 0 (by decide) (hts _ q160) (fun _ h9 => h9) rfl dX2_copyOf_2 ?_
  refine va_put (D := (g.1, g.2.1)) (ci := 2) (v := .int (U.1 0)) (ty := .int) (C := RX2) (T := TX2) (N := 7) hx hb hts in_X2 tyX2 tyX2_ok nmX2 hown hK hP hD hS 0 rfl rfl 0 (by decide) (hts _ q160) (fun _ h9 => h9) rfl (by decide +kernel) rfl rfl (Nat.le_of_ble_eq_true rfl) dX2_copyOf_5 (fun H locs hP hD hS => ?_)
  obtain ⟨S_1, eS_1, hf⟩ := sm_lt_e hf
  have hP : PP g (WI g a S_1 ++ WI g b U) H := by rw [eS_1]; exact pkf0 hP
  have hD : va_D (AII a b) (WI g a S_1 ++ WI g b U) := by rw [eS_1]; exact dkf0 hD
  refine lv_aload_n hx hb dX2_copyOf_8 rfl (lv_at hl 0 rfl) ?_
  refine lv_aload_n hx hb dX2_copyOf_9 rfl (lv_at hl 1 rfl) ?_
  refine va_get (D := (g.1, g.2.1)) (ci := 2) (v := .int (U.1 1)) (C := RX2) (T := TX2) (N := 7) hx hb hts in_X2 hown hK hP 4 rfl rfl 1 (by decide) (hts _ q162) (fun _ h9 => h9) rfl dX2_copyOf_10 ?_
  refine va_put (D := (g.1, g.2.1)) (ci := 2) (v := .int (U.1 1)) (ty := .int) (C := RX2) (T := TX2) (N := 7) hx hb hts in_X2 tyX2 tyX2_ok nmX2 hown hK hP hD hS 0 rfl rfl 1 (by decide) (hts _ q162) (fun _ h9 => h9) rfl (by decide +kernel) rfl rfl (Nat.le_of_ble_eq_true rfl) dX2_copyOf_13 (fun H locs hP hD hS => ?_)
  obtain ⟨S_2, eS_2, hf⟩ := sm_lt_e hf
  have hP : PP g (WI g a S_2 ++ WI g b U) H := by rw [eS_2]; exact pkf1 hP
  have hD : va_D (AII a b) (WI g a S_2 ++ WI g b U) := by rw [eS_2]; exact dkf1 hD
  refine lv_aload_n hx hb dX2_copyOf_16 rfl (lv_at hl 0 rfl) ?_
  refine lv_aload_n hx hb dX2_copyOf_17 rfl (lv_at hl 1 rfl) ?_
  refine va_get (D := (g.1, g.2.1)) (ci := 2) (v := .int (U.1 2)) (C := RX2) (T := TX2) (N := 7) hx hb hts in_X2 hown hK hP 4 rfl rfl 2 (by decide) (hts _ q164) (fun _ h9 => h9) rfl dX2_copyOf_18 ?_
  refine va_put (D := (g.1, g.2.1)) (ci := 2) (v := .int (U.1 2)) (ty := .int) (C := RX2) (T := TX2) (N := 7) hx hb hts in_X2 tyX2 tyX2_ok nmX2 hown hK hP hD hS 0 rfl rfl 2 (by decide) (hts _ q164) (fun _ h9 => h9) rfl (by decide +kernel) rfl rfl (Nat.le_of_ble_eq_true rfl) dX2_copyOf_21 (fun H locs hP hD hS => ?_)
  obtain ⟨S_3, eS_3, hf⟩ := sm_lt_e hf
  have hP : PP g (WI g a S_3 ++ WI g b U) H := by rw [eS_3]; exact pkf2 hP
  have hD : va_D (AII a b) (WI g a S_3 ++ WI g b U) := by rw [eS_3]; exact dkf2 hD
  refine lv_aload_n hx hb dX2_copyOf_24 rfl (lv_at hl 1 rfl) ?_
  refine va_get (D := (g.1, g.2.1)) (ci := 2) (v := .ref (b 1)) (C := RX2) (T := TX2) (N := 7) hx hb hts in_X2 hown hK hP 4 rfl rfl 3 (by decide) (hts _ q167) (fun _ h9 => h9) rfl dX2_copyOf_25 ?_
  refine lv_iconst (v := 0) hx hb dX2_copyOf_28 (by decide) ?_
  refine lv_aload_n hx hb dX2_copyOf_29 rfl (lv_at hl 0 rfl) ?_
  refine va_get (D := (g.1, g.2.1)) (ci := 2) (v := .ref (a 1)) (C := RX2) (T := TX2) (N := 7) hx hb hts in_X2 hown hK hP 0 rfl rfl 3 (by decide) (hts _ q167) (fun _ h9 => h9) rfl dX2_copyOf_30 ?_
  refine lv_iconst (v := 0) hx hb dX2_copyOf_33 (by decide) ?_
  refine lv_bipush (v := 6) hx hb dX2_copyOf_34 (by decide) ?_
  refine sm_copyi (SP := 0) (DP := 0) (N := 6) hx hb (hml.trans hl.1.symm) hown (hts _ q627) (hts _ q622) (hts _ q621) (hts _ q82) hK hP hD hS 5 1 0 0 rfl rfl rfl rfl rfl rfl rfl rfl (by decide) (by decide) (by decide) (by decide) (by decide) (fun _ _ => rfl) (Nat.le_of_ble_eq_true rfl) (Nat.le_of_ble_eq_true rfl) dX2_copyOf_36 (fun H locs hP hD hS => ?_)
  obtain ⟨S_4, eS_4, hf⟩ := sm_lt_e hf
  have hP : PP g (WI g a S_4 ++ WI g b U) H := by rw [eS_4]; exact pkw3 hP
  have hD : va_D (AII a b) (WI g a S_4 ++ WI g b U) := by rw [eS_4]; exact dkw3 hD
  refine lv_aload_n hx hb dX2_copyOf_39 rfl (lv_at hl 1 rfl) ?_
  refine va_get (D := (g.1, g.2.1)) (ci := 2) (v := .ref (b 2)) (C := RX2) (T := TX2) (N := 7) hx hb hts in_X2 hown hK hP 4 rfl rfl 4 (by decide) (hts _ q169) (fun _ h9 => h9) rfl dX2_copyOf_40 ?_
  refine lv_iconst (v := 0) hx hb dX2_copyOf_43 (by decide) ?_
  refine lv_aload_n hx hb dX2_copyOf_44 rfl (lv_at hl 0 rfl) ?_
  refine va_get (D := (g.1, g.2.1)) (ci := 2) (v := .ref (a 2)) (C := RX2) (T := TX2) (N := 7) hx hb hts in_X2 hown hK hP 0 rfl rfl 4 (by decide) (hts _ q169) (fun _ h9 => h9) rfl dX2_copyOf_45 ?_
  refine lv_iconst (v := 0) hx hb dX2_copyOf_48 (by decide) ?_
  refine lv_bipush (v := 6) hx hb dX2_copyOf_49 (by decide) ?_
  refine sm_copyi (SP := 0) (DP := 0) (N := 6) hx hb (hml.trans hl.1.symm) hown (hts _ q627) (hts _ q622) (hts _ q621) (hts _ q82) hK hP hD hS 6 2 0 0 rfl rfl rfl rfl rfl rfl rfl rfl (by decide) (by decide) (by decide) (by decide) (by decide) (fun _ _ => rfl) (Nat.le_of_ble_eq_true rfl) (Nat.le_of_ble_eq_true rfl) dX2_copyOf_51 (fun H locs hP hD hS => ?_)
  obtain ⟨S_5, eS_5, hf⟩ := sm_lt_e hf
  have hP : PP g (WI g a S_5 ++ WI g b U) H := by rw [eS_5]; exact pkw4 hP
  have hD : va_D (AII a b) (WI g a S_5 ++ WI g b U) := by rw [eS_5]; exact dkw4 hD
  refine lv_aload_n hx hb dX2_copyOf_54 rfl (lv_at hl 1 rfl) ?_
  refine va_get (D := (g.1, g.2.1)) (ci := 2) (v := .ref (b 3)) (C := RX2) (T := TX2) (N := 7) hx hb hts in_X2 hown hK hP 4 rfl rfl 5 (by decide) (hts _ q171) (fun _ h9 => h9) rfl dX2_copyOf_55 ?_
  refine lv_iconst (v := 0) hx hb dX2_copyOf_58 (by decide) ?_
  refine lv_aload_n hx hb dX2_copyOf_59 rfl (lv_at hl 0 rfl) ?_
  refine va_get (D := (g.1, g.2.1)) (ci := 2) (v := .ref (a 3)) (C := RX2) (T := TX2) (N := 7) hx hb hts in_X2 hown hK hP 0 rfl rfl 5 (by decide) (hts _ q171) (fun _ h9 => h9) rfl dX2_copyOf_60 ?_
  refine lv_iconst (v := 0) hx hb dX2_copyOf_63 (by decide) ?_
  refine lv_iconst (v := 5) hx hb dX2_copyOf_64 (by decide) ?_
  refine sm_copyi (SP := 0) (DP := 0) (N := 5) hx hb (hml.trans hl.1.symm) hown (hts _ q627) (hts _ q622) (hts _ q621) (hts _ q82) hK hP hD hS 7 3 0 0 rfl rfl rfl rfl rfl rfl rfl rfl (by decide) (by decide) (by decide) (by decide) (by decide) (fun _ _ => rfl) (Nat.le_of_ble_eq_true rfl) (Nat.le_of_ble_eq_true rfl) dX2_copyOf_65 (fun H locs hP hD hS => ?_)
  obtain ⟨S_6, eS_6, hf⟩ := sm_lt_e hf
  have hP : PP g (WI g a S_6 ++ WI g b U) H := by rw [eS_6]; exact pkw5 hP
  have hD : va_D (AII a b) (WI g a S_6 ++ WI g b U) := by rw [eS_6]; exact dkw5 hD
  refine lv_aload_n hx hb dX2_copyOf_68 rfl (lv_at hl 0 rfl) ?_
  refine lv_aload_n hx hb dX2_copyOf_69 rfl (lv_at hl 1 rfl) ?_
  refine va_get (D := (g.1, g.2.1)) (ci := 2) (v := .int (U.1 6)) (C := RX2) (T := TX2) (N := 7) hx hb hts in_X2 hown hK hP 4 rfl rfl 6 (by decide) (hts _ q173) (fun _ h9 => h9) rfl dX2_copyOf_70 ?_
  refine va_put (D := (g.1, g.2.1)) (ci := 2) (v := .int (U.1 6)) (ty := .int) (C := RX2) (T := TX2) (N := 7) hx hb hts in_X2 tyX2 tyX2_ok nmX2 hown hK hP hD hS 0 rfl rfl 6 (by decide) (hts _ q173) (fun _ h9 => h9) rfl (by decide +kernel) rfl rfl (Nat.le_of_ble_eq_true rfl) dX2_copyOf_73 (fun H locs hP hD hS => ?_)
  obtain ⟨S_7, eS_7, hf⟩ := sm_lt_e hf
  have hP : PP g (WI g a S_7 ++ WI g b U) H := by rw [eS_7]; exact pkf6 hP
  have hD : va_D (AII a b) (WI g a S_7 ++ WI g b U) := by rw [eS_7]; exact dkf6 hD
  have hf := Option.some.inj hf
  rw [← hQ]
  exact W.vret hx hb hr (fun t ht hW => ⟨⟨(), rfl, trivial, by rw [ht, ← hf]; exact hP, by rw [← hf]; exact hD⟩, hS.F ht⟩) hS.2.2 dX2_copyOf_76
abbrev rX0_in : Room := { frames := 0, cells := 0, slots := 0, locals := 0 }
set_option maxHeartbeats 4000000 in
theorem wX0_in (l : Launch) (a1 : Int32) (a2 : Int32) (a3 : Int32) (rf : Int32) (hf : fX0_in a1 a2 a3 = rf) : Met l yX0_in (ws_ yX0_in cX0_in 3 (some .boolean)) rX0_in (va_Pc [.int a1, .int a2, .int a3] (fun _ => True)) (vp_Si (fun y => y = rf)) 0 0 (fun _ => False) := by
  refine sm_st (by decide) ?_
  intro p e s m args below meth c hx hb hr hlocks hml hown hnm hts hv
  obtain ⟨hargs, -⟩ := hv
  have hown : s.vm.findClass RX0 = some m.cls := hown
  refine sm_en _ (Nat.le_of_ble_eq_true rfl) hargs (fun ls hl => ?_)
  have hl : lv_has ls 3 [(0, .int a1), (1, .int a2), (2, .int a3)] := hl
  generalize hQ : MQ below _ args s _ _ _ = Q
  unfold fX0_in at hf
  refine lv_iload_n hx hb dX0_in_0 rfl (lv_at hl 0 rfl) ?_
  refine lv_iload_n hx hb dX0_in_1 rfl (lv_at hl 1 rfl) ?_
  refine lv_icmp_lt (tgt := 14) hx hb dX0_in_2 (by decide) (fun c_1 => ?_) (fun c_1 => ?_)
  · have hf := (if_pos c_1).symm.trans hf
    refine lv_iconst (v := 0) hx hb dX0_in_14 (by decide) ?_
    rw [← hQ]
    exact W.zret (v := 0) hx hb hr rfl (fun t ht hW => ⟨_, rfl, hf, ht⟩) (fun _ h => by cases h) dX0_in_15
  · have hf := (if_neg c_1).symm.trans hf
    refine lv_iload_n hx hb dX0_in_5 rfl (lv_at hl 0 rfl) ?_
    refine lv_iload_n hx hb dX0_in_6 rfl (lv_at hl 2 rfl) ?_
    refine lv_icmp_gt (tgt := 14) hx hb dX0_in_7 (by decide) (fun c_2 => ?_) (fun c_2 => ?_)
    · have hf := (if_pos c_2).symm.trans hf
      refine lv_iconst (v := 0) hx hb dX0_in_14 (by decide) ?_
      rw [← hQ]
      exact W.zret (v := 0) hx hb hr rfl (fun t ht hW => ⟨_, rfl, hf, ht⟩) (fun _ h => by cases h) dX0_in_15
    · have hf := (if_neg c_2).symm.trans hf
      refine lv_iconst (v := 1) hx hb dX0_in_10 (by decide) ?_
      refine lv_goto (tgt := 15) hx hb dX0_in_11 (by decide) ?_
      rw [← hQ]
      exact W.zret (v := 1) hx hb hr rfl (fun t ht hW => ⟨_, rfl, hf, ht⟩) (fun _ h => by cases h) dX0_in_15
abbrev rX0_isTraveller : Room := { frames := 1, cells := 0, slots := 0, locals := 22 }
set_option maxHeartbeats 4000000 in
theorem wX0_isTraveller (l : Launch) (g : GG) (ad : Nat → Nat) (S : XS) (a1 : Int32) (rf : Int32) (hf : fX0_isTraveller S a1 = rf) : Met l yX0_isTraveller (ws_ yX0_isTraveller cX0_isTraveller 2 (some .boolean)) rX0_isTraveller (va_Pc [.ref (ad 0), .int a1] (fun Ux => PP g (WX g ad S) Ux.heap ∧ EV g Ux)) (vp_Si (fun y => y = rf)) 0 0 (fun _ => False) := by
  refine sm_st (by decide) ?_
  intro p e s m args below meth c hx hb hr hlocks hml hown hnm hts hv
  obtain ⟨hargs, hP, hE⟩ := hv
  obtain ⟨hK, hN⟩ := id hE
  have hown : s.vm.findClass RX0 = some m.cls := hown
  refine sm_en _ (Nat.le_of_ble_eq_true rfl) hargs (fun ls hl => ?_)
  have hl : lv_has ls 2 [(0, .ref (ad 0)), (1, .int a1)] := hl
  generalize hQ : MQ below _ args s _ _ _ = Q
  unfold fX0_isTraveller at hf
  refine lv_iload_n hx hb dX0_isTraveller_0 rfl (lv_at hl 1 rfl) ?_
  refine lv_iconst (v := 0) hx hb dX0_isTraveller_1 (by decide) ?_
  refine lv_aload_n hx hb dX0_isTraveller_2 rfl (lv_at hl 0 rfl) ?_
  refine va_get (D := (g.1, g.2.1)) (ci := 0) (v := .ref (ad 1)) (C := RX0) (T := TX0) (N := 20) hx hb hts in_X0 hown hK hP 0 rfl rfl 0 (by decide) (hts _ q269) (fun _ h9 => h9) rfl dX0_isTraveller_3 ?_
  refine va_getN (D := (g.1, g.2.1)) (ci := 1) (v := .int (S.2.2.2.2.1.1 6)) (C := RX1) (T := TX1) (N := 9) hx hb hts in_X1 hown hK hP 1 rfl rfl 6 (by decide) (va_Nw.use rfl (hN _ q121 rfl)) (fun _ h9 => h9) rfl dX0_isTraveller_6 ?_
  refine lv_iconst (v := 1) hx hb dX0_isTraveller_9 (by decide) ?_
  refine lv_isub hx hb dX0_isTraveller_10 ?_
  refine vp_callSi (W.runS (As := [.int a1, .int 0, .int ((S.2.2.2.2.1.1 6) - 1)]) (rest := []) ⟨hx, hb, hml, hown, hts⟩ (wX0_in l a1 0 ((S.2.2.2.2.1.1 6) - 1) (fX0_in a1 0 ((S.2.2.2.2.1.1 6) - 1)) rfl) (va_cwS 3 hts (lw_S q343 q344 q60 q345) rfl rfl rfl (by decide +kernel) ⟨Nat.le_of_ble_eq_true rfl, Nat.le_of_ble_eq_true rfl⟩) (sm_ps) rfl rfl hl.1 rfl (lv_room (Nat.le_of_ble_eq_true rfl)) dX0_isTraveller_11 ⟨Nat.le_of_ble_eq_true rfl, Nat.le_of_ble_eq_true rfl⟩) (fun r_2 er_1 => ?_)
  have er_1 := er_1.symm
  subst er_1
  rw [← hQ]
  exact W.zret (v := fX0_in a1 0 ((S.2.2.2.2.1.1 6) - 1)) hx hb hr (sm_bz_nar (bX0_in a1 0 ((S.2.2.2.2.1.1 6) - 1))) (fun t ht hW => ⟨_, rfl, hf, ht⟩) (fun _ h => by cases h) dX0_isTraveller_14
abbrev rX0_isRow : Room := { frames := 1, cells := 0, slots := 0, locals := 22 }
set_option maxHeartbeats 4000000 in
theorem wX0_isRow (l : Launch) (g : GG) (ad : Nat → Nat) (S : XS) (a1 : Int32) (rf : Int32) (hf : fX0_isRow S a1 = rf) : Met l yX0_isRow (ws_ yX0_isRow cX0_isRow 2 (some .boolean)) rX0_isRow (va_Pc [.ref (ad 0), .int a1] (fun Ux => PP g (WX g ad S) Ux.heap ∧ EV g Ux)) (vp_Si (fun y => y = rf)) 0 0 (fun _ => False) := by
  refine sm_st (by decide) ?_
  intro p e s m args below meth c hx hb hr hlocks hml hown hnm hts hv
  obtain ⟨hargs, hP, hE⟩ := hv
  obtain ⟨hK, hN⟩ := id hE
  have hown : s.vm.findClass RX0 = some m.cls := hown
  refine sm_en _ (Nat.le_of_ble_eq_true rfl) hargs (fun ls hl => ?_)
  have hl : lv_has ls 2 [(0, .ref (ad 0)), (1, .int a1)] := hl
  generalize hQ : MQ below _ args s _ _ _ = Q
  unfold fX0_isRow at hf
  refine lv_iload_n hx hb dX0_isRow_0 rfl (lv_at hl 1 rfl) ?_
  refine lv_iconst (v := 0) hx hb dX0_isRow_1 (by decide) ?_
  refine lv_aload_n hx hb dX0_isRow_2 rfl (lv_at hl 0 rfl) ?_
  refine va_get (D := (g.1, g.2.1)) (ci := 0) (v := .ref (ad 1)) (C := RX0) (T := TX0) (N := 20) hx hb hts in_X0 hown hK hP 0 rfl rfl 0 (by decide) (hts _ q269) (fun _ h9 => h9) rfl dX0_isRow_3 ?_
  refine va_getN (D := (g.1, g.2.1)) (ci := 1) (v := .ref (ad 2)) (C := RX1) (T := TX1) (N := 9) hx hb hts in_X1 hown hK hP 1 rfl rfl 0 (by decide) (va_Nw.use rfl (hN _ q101 rfl)) (fun _ h9 => h9) rfl dX0_isRow_6 ?_
  refine lv_iconst (v := 1) hx hb dX0_isRow_9 (by decide) ?_
  refine va_iald hx hb hK hP 2 0 rfl rfl (sm_in rfl) dX0_isRow_10 ?_
  refine lv_iconst (v := 1) hx hb dX0_isRow_11 (by decide) ?_
  refine lv_isub hx hb dX0_isRow_12 ?_
  refine vp_callSi (W.runS (As := [.int a1, .int 0, .int ((S.2.2.2.2.1.2 0 1) - 1)]) (rest := []) ⟨hx, hb, hml, hown, hts⟩ (wX0_in l a1 0 ((S.2.2.2.2.1.2 0 1) - 1) (fX0_in a1 0 ((S.2.2.2.2.1.2 0 1) - 1)) rfl) (va_cwS 3 hts (lw_S q343 q344 q60 q345) rfl rfl rfl (by decide +kernel) ⟨Nat.le_of_ble_eq_true rfl, Nat.le_of_ble_eq_true rfl⟩) (sm_ps) rfl rfl hl.1 rfl (lv_room (Nat.le_of_ble_eq_true rfl)) dX0_isRow_13 ⟨Nat.le_of_ble_eq_true rfl, Nat.le_of_ble_eq_true rfl⟩) (fun r_2 er_1 => ?_)
  have er_1 := er_1.symm
  subst er_1
  rw [← hQ]
  exact W.zret (v := fX0_in a1 0 ((S.2.2.2.2.1.2 0 1) - 1)) hx hb hr (sm_bz_nar (bX0_in a1 0 ((S.2.2.2.2.1.2 0 1) - 1))) (fun t ht hW => ⟨_, rfl, hf, ht⟩) (fun _ h => by cases h) dX0_isRow_16
abbrev rX0_isClerk : Room := { frames := 1, cells := 0, slots := 0, locals := 22 }
set_option maxHeartbeats 4000000 in
theorem wX0_isClerk (l : Launch) (g : GG) (ad : Nat → Nat) (S : XS) (a1 : Int32) (rf : Int32) (hf : fX0_isClerk S a1 = rf) : Met l yX0_isClerk (ws_ yX0_isClerk cX0_isClerk 2 (some .boolean)) rX0_isClerk (va_Pc [.ref (ad 0), .int a1] (fun Ux => PP g (WX g ad S) Ux.heap ∧ EV g Ux)) (vp_Si (fun y => y = rf)) 0 0 (fun _ => False) := by
  refine sm_st (by decide) ?_
  intro p e s m args below meth c hx hb hr hlocks hml hown hnm hts hv
  obtain ⟨hargs, hP, hE⟩ := hv
  obtain ⟨hK, hN⟩ := id hE
  have hown : s.vm.findClass RX0 = some m.cls := hown
  refine sm_en _ (Nat.le_of_ble_eq_true rfl) hargs (fun ls hl => ?_)
  have hl : lv_has ls 2 [(0, .ref (ad 0)), (1, .int a1)] := hl
  generalize hQ : MQ below _ args s _ _ _ = Q
  unfold fX0_isClerk at hf
  refine lv_iload_n hx hb dX0_isClerk_0 rfl (lv_at hl 1 rfl) ?_
  refine lv_iconst (v := 0) hx hb dX0_isClerk_1 (by decide) ?_
  refine lv_aload_n hx hb dX0_isClerk_2 rfl (lv_at hl 0 rfl) ?_
  refine va_get (D := (g.1, g.2.1)) (ci := 0) (v := .ref (ad 1)) (C := RX0) (T := TX0) (N := 20) hx hb hts in_X0 hown hK hP 0 rfl rfl 0 (by decide) (hts _ q269) (fun _ h9 => h9) rfl dX0_isClerk_3 ?_
  refine va_getN (D := (g.1, g.2.1)) (ci := 1) (v := .int (S.2.2.2.2.1.1 7)) (C := RX1) (T := TX1) (N := 9) hx hb hts in_X1 hown hK hP 1 rfl rfl 7 (by decide) (va_Nw.use rfl (hN _ q124 rfl)) (fun _ h9 => h9) rfl dX0_isClerk_6 ?_
  refine lv_iconst (v := 1) hx hb dX0_isClerk_9 (by decide) ?_
  refine lv_isub hx hb dX0_isClerk_10 ?_
  refine vp_callSi (W.runS (As := [.int a1, .int 0, .int ((S.2.2.2.2.1.1 7) - 1)]) (rest := []) ⟨hx, hb, hml, hown, hts⟩ (wX0_in l a1 0 ((S.2.2.2.2.1.1 7) - 1) (fX0_in a1 0 ((S.2.2.2.2.1.1 7) - 1)) rfl) (va_cwS 3 hts (lw_S q343 q344 q60 q345) rfl rfl rfl (by decide +kernel) ⟨Nat.le_of_ble_eq_true rfl, Nat.le_of_ble_eq_true rfl⟩) (sm_ps) rfl rfl hl.1 rfl (lv_room (Nat.le_of_ble_eq_true rfl)) dX0_isClerk_11 ⟨Nat.le_of_ble_eq_true rfl, Nat.le_of_ble_eq_true rfl⟩) (fun r_2 er_1 => ?_)
  have er_1 := er_1.symm
  subst er_1
  rw [← hQ]
  exact W.zret (v := fX0_in a1 0 ((S.2.2.2.2.1.1 7) - 1)) hx hb hr (sm_bz_nar (bX0_in a1 0 ((S.2.2.2.2.1.1 7) - 1))) (fun t ht hW => ⟨_, rfl, hf, ht⟩) (fun _ h => by cases h) dX0_isClerk_14
abbrev rX0_isTravellerOrNone : Room := { frames := 2, cells := 0, slots := 0, locals := 43 }
set_option maxHeartbeats 4000000 in
theorem wX0_isTravellerOrNone (l : Launch) (g : GG) (ad : Nat → Nat) (S : XS) (a1 : Int32) (rf : Int32) (hf : fX0_isTravellerOrNone S a1 = rf) : Met l yX0_isTravellerOrNone (ws_ yX0_isTravellerOrNone cX0_isTravellerOrNone 2 (some .boolean)) rX0_isTravellerOrNone (va_Pc [.ref (ad 0), .int a1] (fun Ux => PP g (WX g ad S) Ux.heap ∧ EV g Ux)) (vp_Si (fun y => y = rf)) 0 0 (fun _ => False) := by
  refine sm_st (by decide) ?_
  intro p e s m args below meth c hx hb hr hlocks hml hown hnm hts hv
  obtain ⟨hargs, hP, hE⟩ := hv
  obtain ⟨hK, hN⟩ := id hE
  have hown : s.vm.findClass RX0 = some m.cls := hown
  refine sm_en _ (Nat.le_of_ble_eq_true rfl) hargs (fun ls hl => ?_)
  have hl : lv_has ls 2 [(0, .ref (ad 0)), (1, .int a1)] := hl
  generalize hQ : MQ below _ args s _ _ _ = Q
  unfold fX0_isTravellerOrNone at hf
  refine lv_iload_n hx hb dX0_isTravellerOrNone_0 rfl (lv_at hl 1 rfl) ?_
  refine lv_bipush (v := (-9)) hx hb dX0_isTravellerOrNone_1 (by decide) ?_
  refine lv_icmp_eq (tgt := 14) hx hb dX0_isTravellerOrNone_3 (by decide) (fun c_1 => ?_) (fun c_1 => ?_)
  · have hf := (if_pos c_1).symm.trans hf
    refine lv_iconst (v := 1) hx hb dX0_isTravellerOrNone_14 (by decide) ?_
    refine lv_goto (tgt := 19) hx hb dX0_isTravellerOrNone_15 (by decide) ?_
    rw [← hQ]
    exact W.zret (v := 1) hx hb hr rfl (fun t ht hW => ⟨_, rfl, hf, ht⟩) (fun _ h => by cases h) dX0_isTravellerOrNone_19
  · have hf := (if_neg c_1).symm.trans hf
    refine lv_aload_n hx hb dX0_isTravellerOrNone_6 rfl (lv_at hl 0 rfl) ?_
    refine lv_iload_n hx hb dX0_isTravellerOrNone_7 rfl (lv_at hl 1 rfl) ?_
    refine vp_callSi (W.runV (As := [.int a1]) (rest := []) ⟨hx, hb, hml, hown, hts⟩ (wX0_isTraveller l g ad S a1 (fX0_isTraveller S a1) rfl) (cwV 1 hts (lw_V q580 q582 qs7 q60 q583) rfl rfl rfl (by decide +kernel) ⟨Nat.le_of_ble_eq_true rfl, Nat.le_of_ble_eq_true rfl⟩) (sm_pv hE hP (va_recv hK hP (ci := 0) (q0 := 0) rfl rfl)) rfl rfl hl.1 rfl (lv_room (Nat.le_of_ble_eq_true rfl)) dX0_isTravellerOrNone_8 ⟨Nat.le_of_ble_eq_true rfl, Nat.le_of_ble_eq_true rfl⟩) (fun r_3 er_2 => ?_)
    have er_2 := er_2.symm
    subst er_2
    refine lv_if_eq (tgt := 18) hx hb dX0_isTravellerOrNone_11 (by decide) (fun c_4 => ?_) (fun c_4 => ?_)
    · have hf := (if_pos c_4).symm.trans hf
      refine lv_iconst (v := 0) hx hb dX0_isTravellerOrNone_18 (by decide) ?_
      rw [← hQ]
      exact W.zret (v := 0) hx hb hr rfl (fun t ht hW => ⟨_, rfl, hf, ht⟩) (fun _ h => by cases h) dX0_isTravellerOrNone_19
    · have hf := (if_neg c_4).symm.trans hf
      refine lv_iconst (v := 1) hx hb dX0_isTravellerOrNone_14 (by decide) ?_
      refine lv_goto (tgt := 19) hx hb dX0_isTravellerOrNone_15 (by decide) ?_
      rw [← hQ]
      exact W.zret (v := 1) hx hb hr rfl (fun t ht hW => ⟨_, rfl, hf, ht⟩) (fun _ h => by cases h) dX0_isTravellerOrNone_19
abbrev rX0_isPlace : Room := { frames := 1, cells := 0, slots := 0, locals := 22 }
set_option maxHeartbeats 4000000 in
theorem wX0_isPlace (l : Launch) (g : GG) (ad : Nat → Nat) (S : XS) (a1 : Int32) (rf : Int32) (hf : fX0_isPlace S a1 = rf) : Met l yX0_isPlace (ws_ yX0_isPlace cX0_isPlace 2 (some .boolean)) rX0_isPlace (va_Pc [.ref (ad 0), .int a1] (fun Ux => PP g (WX g ad S) Ux.heap ∧ EV g Ux)) (vp_Si (fun y => y = rf)) 0 0 (fun _ => False) := by
  refine sm_st (by decide) ?_
  intro p e s m args below meth c hx hb hr hlocks hml hown hnm hts hv
  obtain ⟨hargs, hP, hE⟩ := hv
  obtain ⟨hK, hN⟩ := id hE
  have hown : s.vm.findClass RX0 = some m.cls := hown
  refine sm_en _ (Nat.le_of_ble_eq_true rfl) hargs (fun ls hl => ?_)
  have hl : lv_has ls 2 [(0, .ref (ad 0)), (1, .int a1)] := hl
  generalize hQ : MQ below _ args s _ _ _ = Q
  unfold fX0_isPlace at hf
  refine lv_aload_n hx hb dX0_isPlace_0 rfl (lv_at hl 0 rfl) ?_
  refine va_get (D := (g.1, g.2.1)) (ci := 0) (v := .int (S.1 12)) (C := RX0) (T := TX0) (N := 20) hx hb hts in_X0 hown hK hP 0 rfl rfl 12 (by decide) (hts _ q284) (fun _ h9 => h9) rfl dX0_isPlace_1 ?_
  refine lv_if_le (tgt := 25) hx hb dX0_isPlace_4 (by decide) (fun c_1 => ?_) (fun c_1 => ?_)
  · have hf := (if_pos c_1).symm.trans hf
    refine lv_iconst (v := 0) hx hb dX0_isPlace_25 (by decide) ?_
    rw [← hQ]
    exact W.zret (v := 0) hx hb hr rfl (fun t ht hW => ⟨_, rfl, hf, ht⟩) (fun _ h => by cases h) dX0_isPlace_26
  · have hf := (if_neg c_1).symm.trans hf
    refine lv_iload_n hx hb dX0_isPlace_7 rfl (lv_at hl 1 rfl) ?_
    refine lv_iconst (v := 0) hx hb dX0_isPlace_8 (by decide) ?_
    refine lv_aload_n hx hb dX0_isPlace_9 rfl (lv_at hl 0 rfl) ?_
    refine va_get (D := (g.1, g.2.1)) (ci := 0) (v := .int (S.1 13)) (C := RX0) (T := TX0) (N := 20) hx hb hts in_X0 hown hK hP 0 rfl rfl 13 (by decide) (hts _ q285) (fun _ h9 => h9) rfl dX0_isPlace_10 ?_
    refine lv_iconst (v := 1) hx hb dX0_isPlace_13 (by decide) ?_
    refine lv_isub hx hb dX0_isPlace_14 ?_
    refine vp_callSi (W.runS (As := [.int a1, .int 0, .int ((S.1 13) - 1)]) (rest := []) ⟨hx, hb, hml, hown, hts⟩ (wX0_in l a1 0 ((S.1 13) - 1) (fX0_in a1 0 ((S.1 13) - 1)) rfl) (va_cwS 3 hts (lw_S q343 q344 q60 q345) rfl rfl rfl (by decide +kernel) ⟨Nat.le_of_ble_eq_true rfl, Nat.le_of_ble_eq_true rfl⟩) (sm_ps) rfl rfl hl.1 rfl (lv_room (Nat.le_of_ble_eq_true rfl)) dX0_isPlace_15 ⟨Nat.le_of_ble_eq_true rfl, Nat.le_of_ble_eq_true rfl⟩) (fun r_3 er_2 => ?_)
    have er_2 := er_2.symm
    subst er_2
    refine lv_if_eq (tgt := 25) hx hb dX0_isPlace_18 (by decide) (fun c_4 => ?_) (fun c_4 => ?_)
    · have hf := (if_pos c_4).symm.trans hf
      refine lv_iconst (v := 0) hx hb dX0_isPlace_25 (by decide) ?_
      rw [← hQ]
      exact W.zret (v := 0) hx hb hr rfl (fun t ht hW => ⟨_, rfl, hf, ht⟩) (fun _ h => by cases h) dX0_isPlace_26
    · have hf := (if_neg c_4).symm.trans hf
      refine lv_iconst (v := 1) hx hb dX0_isPlace_21 (by decide) ?_
      refine lv_goto (tgt := 26) hx hb dX0_isPlace_22 (by decide) ?_
      rw [← hQ]
      exact W.zret (v := 1) hx hb hr rfl (fun t ht hW => ⟨_, rfl, hf, ht⟩) (fun _ h => by cases h) dX0_isPlace_26
abbrev rX0_rowIn : Room := { frames := 0, cells := 0, slots := 0, locals := 0 }
set_option maxHeartbeats 4000000 in
theorem wX0_rowIn (l : Launch) (a1 : Int32) (a2 : Int32) (rf : Int32) (hf : fX0_rowIn a1 a2 = some rf) : Met l yX0_rowIn (ws_ yX0_rowIn cX0_rowIn 4 (some .int)) rX0_rowIn (va_Pc [.int a1, .int a2] (fun _ => True)) (vp_Si (fun y => y = rf)) 0 0 (fun _ => False) := by
  refine sm_st (by decide) ?_
  intro p e s m args below meth c hx hb hr hlocks hml hown hnm hts hv
  obtain ⟨hargs, -⟩ := hv
  have hown : s.vm.findClass RX0 = some m.cls := hown
  refine sm_en _ (Nat.le_of_ble_eq_true rfl) hargs (fun ls hl => ?_)
  have hl : lv_has ls 4 [(0, .int a1), (1, .int a2)] := hl
  generalize hQ : MQ below _ args s _ _ _ = Q
  unfold fX0_rowIn at hf
  refine lv_iload_n hx hb dX0_rowIn_0 rfl (lv_at hl 0 rfl) ?_
  refine lv_istore_n (lv' := [(2, .int a1), (0, .int a1), (1, .int a2)]) hx hb dX0_rowIn_1 rfl hl (by decide) rfl (fun ls hl => ?_)
  refine lv_iconst (v := 0) hx hb dX0_rowIn_2 (by decide) ?_
  refine lv_istore_n (lv' := [(3, .int 0), (2, .int a1), (0, .int a1), (1, .int a2)]) hx hb dX0_rowIn_3 rfl hl (by decide) rfl (fun ls hl => ?_)
  have L_8 : ∀ (n : Nat) (x_1 : Int32) (x_2 : Int32) (o_9 : Int32) (o_10 : Int32) (ls : Array Slot), sm_lp (fun q => fX0_rowIn_4 a2 q.1 q.2) n (x_1, x_2) = some (o_9, o_10) → lv_has ls 4 [(0, .int a1), (1, .int a2), (3, .int x_1), (2, .int x_2)] → (∀ (ls : Array Slot), lv_has ls 4 [(0, .int a1), (1, .int a2), (3, .int o_9), (2, .int o_10)] → W p l e rX0_rowIn s m args below meth c s.heap [] 0 0 Q (F0 m 20 ls [])) → W p l e rX0_rowIn s m args below meth c s.heap [] 0 0 Q (F0 m 4 ls []) := by
    intro n
    induction n with
    | zero =>
      intro _ _ _ _ _ hf
      cases hf
    | succ n ih_3 =>
      intro x_1 x_2 o_9 o_10 ls hf hl kx_4
      obtain ⟨q, hf, hc_7⟩ := sm_bnd hf
      have hf : fX0_rowIn_4 a2 x_1 x_2 = some q := hf
      unfold fX0_rowIn_4 at hf
      refine lv_iload_n hx hb dX0_rowIn_4 rfl (lv_at hl 2 rfl) ?_
      refine lv_iload_n hx hb dX0_rowIn_5 rfl (lv_at hl 1 rfl) ?_
      refine lv_icmp_ge (tgt := 20) hx hb dX0_rowIn_6 (by decide) (fun c_11 => ?_) (fun c_11 => ?_)
      · have hf := (if_pos c_11).symm.trans hf
        cases hf
        have hc_7 : some (x_1, x_2) = some (o_9, o_10) := hc_7
        cases hc_7
        exact kx_4 _ (lv_sub hl [0, 1, 2, 3] rfl)
      · have hf := (if_neg c_11).symm.trans hf
        refine lv_iload_n hx hb dX0_rowIn_9 rfl (lv_at hl 3 rfl) ?_
        refine lv_bipush (v := 10) hx hb dX0_rowIn_10 (by decide) ?_
        refine lv_idiv hx hb dX0_rowIn_12 (by decide) ?_
        refine lv_istore_n (lv' := [(2, .int (x_2 / 10)), (0, .int a1), (1, .int a2), (3, .int x_1)]) hx hb dX0_rowIn_13 rfl hl (by decide) rfl (fun ls hl => ?_)
        refine lv_iinc (v := x_1 + 1) (lv' := [(3, .int (x_1 + 1)), (2, .int (x_2 / 10)), (0, .int a1), (1, .int a2)]) hx hb dX0_rowIn_14 hl (k := 3) rfl rfl (by decide) rfl (fun ls hl => ?_)
        refine lv_goto (tgt := 4) hx hb dX0_rowIn_17 (by decide) ?_
        cases hf
        exact ih_3 _ _ _ _ _ hc_7 (lv_sub hl [2, 3, 0, 1] rfl) kx_4
  obtain ⟨x_13, x_14, ho, hf⟩ := sm_b2_e hf
  refine L_8 FU 0 a1 x_13 x_14 ls ho (lv_sub hl [2, 3, 0, 1] rfl) ?_
  intro ls hl
  refine lv_iload_n hx hb dX0_rowIn_20 rfl (lv_at hl 3 rfl) ?_
  refine lv_bipush (v := 10) hx hb dX0_rowIn_21 (by decide) ?_
  refine lv_irem hx hb dX0_rowIn_23 (by decide) ?_
  have hf := Option.some.inj hf
  rw [← hQ]
  exact W.iret (v := x_14 - x_14 / 10 * 10) hx hb hr (fun t ht hW => ⟨_, rfl, hf, ht⟩) (fun _ h => by cases h) dX0_rowIn_24
abbrev rX0_type : Room := { frames := 1, cells := 0, slots := 0, locals := 22 }
set_option maxHeartbeats 4000000 in
theorem wX0_type (l : Launch) (g : GG) (ad : Nat → Nat) (S : XS) (a1 : Int32) (Sf : XS) (rf : Int32) (hf : fX0_type S a1 = some (Sf, rf)) : Met l yX0_type (ws_ yX0_type cX0_type 2 (some .int)) rX0_type (va_Pc [.ref (ad 0), .int a1] (fun Ux => PP g (WX g ad S) Ux.heap ∧ EV g Ux ∧ va_D (AX ad) (WX g ad S))) (va_Qi (fun y (_ : Unit) => y = rf) (fun _ t => PP g (WX g ad Sf) t.heap ∧ va_D (AX ad) (WX g ad Sf)) (AX ad)) 0 0 (AX ad) := by
  refine sm_st (by decide) ?_
  intro p e s m args below meth c hx hb hr hlocks hml hown hnm hts hv
  obtain ⟨hargs, hP, hE, hD⟩ := hv
  obtain ⟨hK, hN⟩ := id hE
  have hS : va_S (AX ad) s.heap s.heap [] := va_S.rf
  have hown : s.vm.findClass RX0 = some m.cls := hown
  refine sm_en _ (Nat.le_of_ble_eq_true rfl) hargs (fun ls hl => ?_)
  have hl : lv_has ls 2 [(0, .ref (ad 0)), (1, .int a1)] := hl
  generalize hQ : MQ below _ args s _ _ _ = Q
  unfold fX0_type at hf
  refine lv_iload_n hx hb dX0_type_0 rfl (lv_at hl 1 rfl) ?_
  refine lv_iconst (v := 0) hx hb dX0_type_1 (by decide) ?_
  refine lv_sipush (v := 255) hx hb dX0_type_2 (by decide) ?_
  refine vp_callSi (W.runS (As := [.int a1, .int 0, .int 255]) (rest := []) ⟨hx, hb, hml, hown, hts⟩ (wX0_in l a1 0 255 (fX0_in a1 0 255) rfl) (va_cwS 3 hts (lw_S q343 q344 q60 q345) rfl rfl rfl (by decide +kernel) ⟨Nat.le_of_ble_eq_true rfl, Nat.le_of_ble_eq_true rfl⟩) (sm_ps) rfl rfl hl.1 rfl (lv_room (Nat.le_of_ble_eq_true rfl)) dX0_type_5 ⟨Nat.le_of_ble_eq_true rfl, Nat.le_of_ble_eq_true rfl⟩) (fun r_2 er_1 => ?_)
  have er_1 := er_1.symm
  subst er_1
  refine lv_if_ne (tgt := 13) hx hb dX0_type_8 (by decide) (fun c_3 => ?_) (fun c_3 => ?_)
  · have hf := (if_neg c_3).symm.trans hf
    refine lv_aload_n hx hb dX0_type_13 rfl (lv_at hl 0 rfl) ?_
    refine va_get (D := (g.1, g.2.1)) (ci := 0) (v := .int (S.1 8)) (C := RX0) (T := TX0) (N := 20) hx hb hts in_X0 hown hK hP 0 rfl rfl 8 (by decide) (hts _ q280) (fun _ h9 => h9) rfl dX0_type_14 ?_
    refine lv_sipush (v := 200) hx hb dX0_type_17 (by decide) ?_
    refine lv_icmp_ne (tgt := 26) hx hb dX0_type_20 (by decide) (fun c_4 => ?_) (fun c_4 => ?_)
    · have hf := (if_neg c_4).symm.trans hf
      refine lv_aload_n hx hb dX0_type_26 rfl (lv_at hl 0 rfl) ?_
      refine va_get (D := (g.1, g.2.1)) (ci := 0) (v := .ref (ad 9)) (C := RX0) (T := TX0) (N := 20) hx hb hts in_X0 hown hK hP 0 rfl rfl 7 (by decide) (hts _ q278) (fun _ h9 => h9) rfl dX0_type_27 ?_
      refine lv_aload_n hx hb dX0_type_30 rfl (lv_at hl 0 rfl) ?_
      refine va_get (D := (g.1, g.2.1)) (ci := 0) (v := .int (S.1 8)) (C := RX0) (T := TX0) (N := 20) hx hb hts in_X0 hown hK hP 0 rfl rfl 8 (by decide) (hts _ q280) (fun _ h9 => h9) rfl dX0_type_31 ?_
      refine lv_iload_n hx hb dX0_type_34 rfl (lv_at hl 1 rfl) ?_
      refine lv_i2b (v := a1.toInt8.toInt32) hx hb dX0_type_35 rfl ?_
      obtain ⟨hg, hf⟩ := sm_gd_e hf
      refine va_bast (i := S.1 8) (x := a1.toInt8.toInt32) hx hb hK hP hD hS 9 1 rfl rfl (sm_in hg) dX0_type_36 (fun H locs hP hD hS => ?_)
      obtain ⟨S_5, eS_5, hf⟩ := sm_lt_e hf
      have hP : PP g (WX g ad S_5) H := by rw [eS_5]; exact pxr7 hP
      have hD : va_D (AX ad) (WX g ad S_5) := by rw [eS_5]; exact dxr7 hD
      refine lv_aload_n hx hb dX0_type_37 rfl (lv_at hl 0 rfl) ?_
      refine lv_dup hx hb dX0_type_38 rfl ?_
      refine va_get (D := (g.1, g.2.1)) (ci := 0) (v := .int (S_5.1 8)) (C := RX0) (T := TX0) (N := 20) hx hb hts in_X0 hown hK hP 0 rfl rfl 8 (by decide) (hts _ q280) (fun _ h9 => h9) rfl dX0_type_39 ?_
      refine lv_iconst (v := 1) hx hb dX0_type_42 (by decide) ?_
      refine lv_iadd hx hb dX0_type_43 ?_
      refine va_put (D := (g.1, g.2.1)) (ci := 0) (v := .int ((S_5.1 8) + 1)) (ty := .int) (C := RX0) (T := TX0) (N := 20) hx hb hts in_X0 tyX0 tyX0_ok nmX0 hown hK hP hD hS 0 rfl rfl 8 (by decide) (hts _ q280) (fun _ h9 => h9) rfl (by decide +kernel) rfl rfl (Nat.le_of_ble_eq_true rfl) dX0_type_44 (fun H locs hP hD hS => ?_)
      obtain ⟨S_6, eS_6, hf⟩ := sm_lt_e hf
      have hP : PP g (WX g ad S_6) H := by rw [eS_6]; exact pxf8 hP
      have hD : va_D (AX ad) (WX g ad S_6) := by rw [eS_6]; exact dxf8 hD
      refine lv_aload_n hx hb dX0_type_47 rfl (lv_at hl 0 rfl) ?_
      refine va_get (D := (g.1, g.2.1)) (ci := 0) (v := .int (S_6.1 8)) (C := RX0) (T := TX0) (N := 20) hx hb hts in_X0 hown hK hP 0 rfl rfl 8 (by decide) (hts _ q280) (fun _ h9 => h9) rfl dX0_type_48 ?_
      have hf := Option.some.inj hf
      rw [← hQ]
      have hf := Prod.mk.inj hf
      exact W.iret (v := S_6.1 8) hx hb hr (fun t ht hW => ⟨⟨_, (), rfl, hf.2, by rw [ht, ← hf.1]; exact hP, by rw [← hf.1]; exact hD⟩, hS.F ht⟩) hS.2.2 dX0_type_51
    · have hf := (if_pos c_4).symm.trans hf
      refine lv_bipush (v := (-3)) hx hb dX0_type_23 (by decide) ?_
      have hf := Option.some.inj hf
      rw [← hQ]
      have hf := Prod.mk.inj hf
      exact W.iret (v := (-3)) hx hb hr (fun t ht hW => ⟨⟨_, (), rfl, hf.2, by rw [ht, ← hf.1]; exact hP, by rw [← hf.1]; exact hD⟩, hS.F ht⟩) hS.2.2 dX0_type_25
  · have hf := (if_pos c_3).symm.trans hf
    refine lv_iconst (v := (-1)) hx hb dX0_type_11 (by decide) ?_
    have hf := Option.some.inj hf
    rw [← hQ]
    have hf := Prod.mk.inj hf
    exact W.iret (v := (-1)) hx hb hr (fun t ht hW => ⟨⟨_, (), rfl, hf.2, by rw [ht, ← hf.1]; exact hP, by rw [← hf.1]; exact hD⟩, hS.F ht⟩) hS.2.2 dX0_type_12
abbrev rX0_clear : Room := { frames := 0, cells := 0, slots := 0, locals := 0 }
set_option maxHeartbeats 4000000 in
theorem wX0_clear (l : Launch) (g : GG) (ad : Nat → Nat) (S : XS) (Sf : XS) (rf : Int32) (hf : fX0_clear S = some (Sf, rf)) : Met l yX0_clear (ws_ yX0_clear cX0_clear 2 (some .int)) rX0_clear (va_Pc [.ref (ad 0)] (fun Ux => PP g (WX g ad S) Ux.heap ∧ EV g Ux ∧ va_D (AX ad) (WX g ad S))) (va_Qi (fun y (_ : Unit) => y = rf) (fun _ t => PP g (WX g ad Sf) t.heap ∧ va_D (AX ad) (WX g ad Sf)) (AX ad)) 0 0 (AX ad) := by
  refine sm_st (by decide) ?_
  intro p e s m args below meth c hx hb hr hlocks hml hown hnm hts hv
  obtain ⟨hargs, hP, hE, hD⟩ := hv
  obtain ⟨hK, hN⟩ := id hE
  have hS : va_S (AX ad) s.heap s.heap [] := va_S.rf
  have hown : s.vm.findClass RX0 = some m.cls := hown
  refine sm_en _ (Nat.le_of_ble_eq_true rfl) hargs (fun ls hl => ?_)
  have hl : lv_has ls 2 [(0, .ref (ad 0))] := hl
  generalize hQ : MQ below _ args s _ _ _ = Q
  unfold fX0_clear at hf
  refine lv_aload_n hx hb dX0_clear_0 rfl (lv_at hl 0 rfl) ?_
  refine va_get (D := (g.1, g.2.1)) (ci := 0) (v := .int (S.1 8)) (C := RX0) (T := TX0) (N := 20) hx hb hts in_X0 hown hK hP 0 rfl rfl 8 (by decide) (hts _ q280) (fun _ h9 => h9) rfl dX0_clear_1 ?_
  refine lv_istore_n (lv' := [(1, .int (S.1 8)), (0, .ref (ad 0))]) hx hb dX0_clear_4 rfl hl (by decide) rfl (fun ls hl => ?_)
  refine lv_aload_n hx hb dX0_clear_5 rfl (lv_at hl 1 rfl) ?_
  refine lv_iconst (v := 0) hx hb dX0_clear_6 (by decide) ?_
  refine va_put (D := (g.1, g.2.1)) (ci := 0) (v := .int 0) (ty := .int) (C := RX0) (T := TX0) (N := 20) hx hb hts in_X0 tyX0 tyX0_ok nmX0 hown hK hP hD hS 0 rfl rfl 8 (by decide) (hts _ q280) (fun _ h9 => h9) rfl (by decide +kernel) rfl rfl (Nat.le_of_ble_eq_true rfl) dX0_clear_7 (fun H locs hP hD hS => ?_)
  obtain ⟨S_1, eS_1, hf⟩ := sm_lt_e hf
  have hP : PP g (WX g ad S_1) H := by rw [eS_1]; exact pxf8 hP
  have hD : va_D (AX ad) (WX g ad S_1) := by rw [eS_1]; exact dxf8 hD
  refine lv_iload_n hx hb dX0_clear_10 rfl (lv_at hl 0 rfl) ?_
  have hf := Option.some.inj hf
  rw [← hQ]
  have hf := Prod.mk.inj hf
  exact W.iret (v := S.1 8) hx hb hr (fun t ht hW => ⟨⟨_, (), rfl, hf.2, by rw [ht, ← hf.1]; exact hP, by rw [← hf.1]; exact hD⟩, hS.F ht⟩) hS.2.2 dX0_clear_11
abbrev rX0_traveller : Room := { frames := 2, cells := 0, slots := 0, locals := 43 }
set_option maxHeartbeats 4000000 in
theorem wX0_traveller (l : Launch) (g : GG) (ad : Nat → Nat) (S : XS) (a1 : Int32) (a2 : Int32) (rf : Int32) (hf : fX0_traveller S a1 a2 = some rf) : Met l yX0_traveller (ws_ yX0_traveller cX0_traveller 3 (some .int)) rX0_traveller (va_Pc [.ref (ad 0), .int a1, .int a2] (fun Ux => PP g (WX g ad S) Ux.heap ∧ EV g Ux)) (vp_Si (fun y => y = rf)) 0 0 (fun _ => False) := by
  refine sm_st (by decide) ?_
  intro p e s m args below meth c hx hb hr hlocks hml hown hnm hts hv
  obtain ⟨hargs, hP, hE⟩ := hv
  obtain ⟨hK, hN⟩ := id hE
  have hown : s.vm.findClass RX0 = some m.cls := hown
  refine sm_en _ (Nat.le_of_ble_eq_true rfl) hargs (fun ls hl => ?_)
  have hl : lv_has ls 3 [(0, .ref (ad 0)), (1, .int a1), (2, .int a2)] := hl
  generalize hQ : MQ below _ args s _ _ _ = Q
  unfold fX0_traveller at hf
  refine lv_aload_n hx hb dX0_traveller_0 rfl (lv_at hl 0 rfl) ?_
  refine lv_iload_n hx hb dX0_traveller_1 rfl (lv_at hl 1 rfl) ?_
  refine vp_callSi (W.runV (As := [.int a1]) (rest := []) ⟨hx, hb, hml, hown, hts⟩ (wX0_isTraveller l g ad S a1 (fX0_isTraveller S a1) rfl) (cwV 1 hts (lw_V q580 q582 qs7 q60 q583) rfl rfl rfl (by decide +kernel) ⟨Nat.le_of_ble_eq_true rfl, Nat.le_of_ble_eq_true rfl⟩) (sm_pv hE hP (va_recv hK hP (ci := 0) (q0 := 0) rfl rfl)) rfl rfl hl.1 rfl (lv_room (Nat.le_of_ble_eq_true rfl)) dX0_traveller_2 ⟨Nat.le_of_ble_eq_true rfl, Nat.le_of_ble_eq_true rfl⟩) (fun r_2 er_1 => ?_)
  have er_1 := er_1.symm
  subst er_1
  refine lv_if_ne (tgt := 10) hx hb dX0_traveller_5 (by decide) (fun c_3 => ?_) (fun c_3 => ?_)
  · have hf := (if_neg c_3).symm.trans hf
    refine lv_iload_n hx hb dX0_traveller_10 rfl (lv_at hl 2 rfl) ?_
    by_cases c_4_0 : a2 = 0
    · have hf := (if_pos c_4_0).symm.trans hf
      refine lv_tableIn (tgt := 44) hx hb dX0_traveller_11 (by rw [c_4_0]; decide) (by rw [c_4_0]; decide) (by rw [c_4_0]; rfl) (by decide) ?_
      refine lv_aload_n hx hb dX0_traveller_44 rfl (lv_at hl 0 rfl) ?_
      refine va_get (D := (g.1, g.2.1)) (ci := 0) (v := .ref (ad 1)) (C := RX0) (T := TX0) (N := 20) hx hb hts in_X0 hown hK hP 0 rfl rfl 0 (by decide) (hts _ q269) (fun _ h9 => h9) rfl dX0_traveller_45 ?_
      refine va_getN (D := (g.1, g.2.1)) (ci := 1) (v := .ref (ad 3)) (C := RX1) (T := TX1) (N := 9) hx hb hts in_X1 hown hK hP 1 rfl rfl 1 (by decide) (va_Nw.use rfl (hN _ q104 rfl)) (fun _ h9 => h9) rfl dX0_traveller_48 ?_
      refine lv_iload_n hx hb dX0_traveller_51 rfl (lv_at hl 1 rfl) ?_
      obtain ⟨hg, hf⟩ := sm_gd_e hf
      refine va_iald hx hb hK hP 3 0 rfl rfl (sm_in hg) dX0_traveller_52 ?_
      have hf := Option.some.inj hf
      rw [← hQ]
      exact W.iret (v := S.2.2.2.2.1.2 1 a1.toNatClampNeg) hx hb hr (fun t ht hW => ⟨_, rfl, hf, ht⟩) (fun _ h => by cases h) dX0_traveller_53
    have hf := (if_neg c_4_0).symm.trans hf
    by_cases c_4_1 : a2 = 1
    · have hf := (if_pos c_4_1).symm.trans hf
      refine lv_tableIn (tgt := 54) hx hb dX0_traveller_11 (by rw [c_4_1]; decide) (by rw [c_4_1]; decide) (by rw [c_4_1]; rfl) (by decide) ?_
      refine lv_aload_n hx hb dX0_traveller_54 rfl (lv_at hl 0 rfl) ?_
      refine va_get (D := (g.1, g.2.1)) (ci := 0) (v := .ref (ad 1)) (C := RX0) (T := TX0) (N := 20) hx hb hts in_X0 hown hK hP 0 rfl rfl 0 (by decide) (hts _ q269) (fun _ h9 => h9) rfl dX0_traveller_55 ?_
      refine va_getN (D := (g.1, g.2.1)) (ci := 1) (v := .ref (ad 4)) (C := RX1) (T := TX1) (N := 9) hx hb hts in_X1 hown hK hP 1 rfl rfl 2 (by decide) (va_Nw.use rfl (hN _ q107 rfl)) (fun _ h9 => h9) rfl dX0_traveller_58 ?_
      refine lv_iload_n hx hb dX0_traveller_61 rfl (lv_at hl 1 rfl) ?_
      obtain ⟨hg, hf⟩ := sm_gd_e hf
      refine va_iald hx hb hK hP 4 0 rfl rfl (sm_in hg) dX0_traveller_62 ?_
      have hf := Option.some.inj hf
      rw [← hQ]
      exact W.iret (v := S.2.2.2.2.1.2 2 a1.toNatClampNeg) hx hb hr (fun t ht hW => ⟨_, rfl, hf, ht⟩) (fun _ h => by cases h) dX0_traveller_63
    have hf := (if_neg c_4_1).symm.trans hf
    by_cases c_4_2 : a2 = 2
    · have hf := (if_pos c_4_2).symm.trans hf
      refine lv_tableIn (tgt := 64) hx hb dX0_traveller_11 (by rw [c_4_2]; decide) (by rw [c_4_2]; decide) (by rw [c_4_2]; rfl) (by decide) ?_
      refine lv_aload_n hx hb dX0_traveller_64 rfl (lv_at hl 0 rfl) ?_
      refine va_get (D := (g.1, g.2.1)) (ci := 0) (v := .ref (ad 29)) (C := RX0) (T := TX0) (N := 20) hx hb hts in_X0 hown hK hP 0 rfl rfl 1 (by decide) (hts _ q271) (fun _ h9 => h9) rfl dX0_traveller_65 ?_
      refine va_getN (D := (g.1, g.2.1)) (ci := 2) (v := .ref (ad 30)) (C := RX2) (T := TX2) (N := 7) hx hb hts in_X2 hown hK hP 29 rfl rfl 3 (by decide) (va_Nw.use rfl (hN _ q168 rfl)) (fun _ h9 => h9) rfl dX0_traveller_68 ?_
      refine lv_iload_n hx hb dX0_traveller_71 rfl (lv_at hl 1 rfl) ?_
      obtain ⟨hg, hf⟩ := sm_gd_e hf
      refine va_iald hx hb hK hP 30 0 rfl rfl (sm_in hg) dX0_traveller_72 ?_
      have hf := Option.some.inj hf
      rw [← hQ]
      exact W.iret (v := (S.2.2.1 0).2 3 a1.toNatClampNeg) hx hb hr (fun t ht hW => ⟨_, rfl, hf, ht⟩) (fun _ h => by cases h) dX0_traveller_73
    have hf := (if_neg c_4_2).symm.trans hf
    by_cases c_4_3 : a2 = 3
    · have hf := (if_pos c_4_3).symm.trans hf
      refine lv_tableIn (tgt := 74) hx hb dX0_traveller_11 (by rw [c_4_3]; decide) (by rw [c_4_3]; decide) (by rw [c_4_3]; rfl) (by decide) ?_
      refine lv_aload_n hx hb dX0_traveller_74 rfl (lv_at hl 0 rfl) ?_
      refine va_get (D := (g.1, g.2.1)) (ci := 0) (v := .ref (ad 29)) (C := RX0) (T := TX0) (N := 20) hx hb hts in_X0 hown hK hP 0 rfl rfl 1 (by decide) (hts _ q271) (fun _ h9 => h9) rfl dX0_traveller_75 ?_
      refine va_getN (D := (g.1, g.2.1)) (ci := 2) (v := .ref (ad 30)) (C := RX2) (T := TX2) (N := 7) hx hb hts in_X2 hown hK hP 29 rfl rfl 3 (by decide) (va_Nw.use rfl (hN _ q168 rfl)) (fun _ h9 => h9) rfl dX0_traveller_78 ?_
      refine lv_iload_n hx hb dX0_traveller_81 rfl (lv_at hl 1 rfl) ?_
      obtain ⟨hg, hf⟩ := sm_gd_e hf
      refine va_iald hx hb hK hP 30 0 rfl rfl (sm_in hg) dX0_traveller_82 ?_
      refine lv_bipush (v := (-9)) hx hb dX0_traveller_83 (by decide) ?_
      refine lv_icmp_ne (tgt := 92) hx hb dX0_traveller_85 (by decide) (fun c_5 => ?_) (fun c_5 => ?_)
      · have hf := (if_neg c_5).symm.trans hf
        refine lv_aload_n hx hb dX0_traveller_92 rfl (lv_at hl 0 rfl) ?_
        refine va_get (D := (g.1, g.2.1)) (ci := 0) (v := .ref (ad 29)) (C := RX0) (T := TX0) (N := 20) hx hb hts in_X0 hown hK hP 0 rfl rfl 1 (by decide) (hts _ q271) (fun _ h9 => h9) rfl dX0_traveller_93 ?_
        refine va_getN (D := (g.1, g.2.1)) (ci := 2) (v := .ref (ad 31)) (C := RX2) (T := TX2) (N := 7) hx hb hts in_X2 hown hK hP 29 rfl rfl 4 (by decide) (va_Nw.use rfl (hN _ q170 rfl)) (fun _ h9 => h9) rfl dX0_traveller_96 ?_
        refine lv_iload_n hx hb dX0_traveller_99 rfl (lv_at hl 1 rfl) ?_
        obtain ⟨hg, hf⟩ := sm_gd_e hf
        refine va_iald hx hb hK hP 31 0 rfl rfl (sm_in hg) dX0_traveller_100 ?_
        have hf := Option.some.inj hf
        rw [← hQ]
        exact W.iret (v := (S.2.2.1 0).2 4 a1.toNatClampNeg) hx hb hr (fun t ht hW => ⟨_, rfl, hf, ht⟩) (fun _ h => by cases h) dX0_traveller_101
      · have hf := (if_pos c_5).symm.trans hf
        refine lv_iconst (v := 0) hx hb dX0_traveller_88 (by decide) ?_
        refine lv_goto (tgt := 101) hx hb dX0_traveller_89 (by decide) ?_
        have hf := Option.some.inj hf
        rw [← hQ]
        exact W.iret (v := 0) hx hb hr (fun t ht hW => ⟨_, rfl, hf, ht⟩) (fun _ h => by cases h) dX0_traveller_101
    have hf := (if_neg c_4_3).symm.trans hf
    by_cases c_4_4 : a2 = 4
    · have hf := (if_pos c_4_4).symm.trans hf
      refine lv_tableIn (tgt := 102) hx hb dX0_traveller_11 (by rw [c_4_4]; decide) (by rw [c_4_4]; decide) (by rw [c_4_4]; rfl) (by decide) ?_
      refine lv_aload_n hx hb dX0_traveller_102 rfl (lv_at hl 0 rfl) ?_
      refine va_get (D := (g.1, g.2.1)) (ci := 0) (v := .ref (ad 29)) (C := RX0) (T := TX0) (N := 20) hx hb hts in_X0 hown hK hP 0 rfl rfl 1 (by decide) (hts _ q271) (fun _ h9 => h9) rfl dX0_traveller_103 ?_
      refine va_getN (D := (g.1, g.2.1)) (ci := 2) (v := .int ((S.2.2.1 0).1 2)) (C := RX2) (T := TX2) (N := 7) hx hb hts in_X2 hown hK hP 29 rfl rfl 2 (by decide) (va_Nw.use rfl (hN _ q166 rfl)) (fun _ h9 => h9) rfl dX0_traveller_106 ?_
      refine lv_iload_n hx hb dX0_traveller_109 rfl (lv_at hl 1 rfl) ?_
      refine lv_ishr hx hb dX0_traveller_110 ?_
      refine lv_iconst (v := 1) hx hb dX0_traveller_111 (by decide) ?_
      refine lv_iand hx hb dX0_traveller_112 ?_
      have hf := Option.some.inj hf
      rw [← hQ]
      exact W.iret (v := (((S.2.2.1 0).1 2) >>> (a1 &&& 31)) &&& 1) hx hb hr (fun t ht hW => ⟨_, rfl, hf, ht⟩) (fun _ h => by cases h) dX0_traveller_113
    have hf := (if_neg c_4_4).symm.trans hf
    refine lv_tableOut (tgt := 114) hx hb dX0_traveller_11 (sm_out5 c_4_0 c_4_1 c_4_2 c_4_3 c_4_4) (by decide) ?_
    refine lv_iconst (v := (-1)) hx hb dX0_traveller_114 (by decide) ?_
    have hf := Option.some.inj hf
    rw [← hQ]
    exact W.iret (v := (-1)) hx hb hr (fun t ht hW => ⟨_, rfl, hf, ht⟩) (fun _ h => by cases h) dX0_traveller_115
  · have hf := (if_pos c_3).symm.trans hf
    refine lv_iconst (v := (-1)) hx hb dX0_traveller_8 (by decide) ?_
    have hf := Option.some.inj hf
    rw [← hQ]
    exact W.iret (v := (-1)) hx hb hr (fun t ht hW => ⟨_, rfl, hf, ht⟩) (fun _ h => by cases h) dX0_traveller_9
abbrev rX0_clerk : Room := { frames := 2, cells := 0, slots := 0, locals := 43 }
set_option maxHeartbeats 4000000 in
theorem wX0_clerk (l : Launch) (g : GG) (ad : Nat → Nat) (S : XS) (a1 : Int32) (a2 : Int32) (rf : Int32) (hf : fX0_clerk S a1 a2 = some rf) : Met l yX0_clerk (ws_ yX0_clerk cX0_clerk 3 (some .int)) rX0_clerk (va_Pc [.ref (ad 0), .int a1, .int a2] (fun Ux => PP g (WX g ad S) Ux.heap ∧ EV g Ux)) (vp_Si (fun y => y = rf)) 0 0 (fun _ => False) := by
  refine sm_st (by decide) ?_
  intro p e s m args below meth c hx hb hr hlocks hml hown hnm hts hv
  obtain ⟨hargs, hP, hE⟩ := hv
  obtain ⟨hK, hN⟩ := id hE
  have hown : s.vm.findClass RX0 = some m.cls := hown
  refine sm_en _ (Nat.le_of_ble_eq_true rfl) hargs (fun ls hl => ?_)
  have hl : lv_has ls 3 [(0, .ref (ad 0)), (1, .int a1), (2, .int a2)] := hl
  generalize hQ : MQ below _ args s _ _ _ = Q
  unfold fX0_clerk at hf
  refine lv_aload_n hx hb dX0_clerk_0 rfl (lv_at hl 0 rfl) ?_
  refine lv_iload_n hx hb dX0_clerk_1 rfl (lv_at hl 1 rfl) ?_
  refine vp_callSi (W.runV (As := [.int a1]) (rest := []) ⟨hx, hb, hml, hown, hts⟩ (wX0_isClerk l g ad S a1 (fX0_isClerk S a1) rfl) (cwV 1 hts (lw_V q588 q590 qs8 q60 q591) rfl rfl rfl (by decide +kernel) ⟨Nat.le_of_ble_eq_true rfl, Nat.le_of_ble_eq_true rfl⟩) (sm_pv hE hP (va_recv hK hP (ci := 0) (q0 := 0) rfl rfl)) rfl rfl hl.1 rfl (lv_room (Nat.le_of_ble_eq_true rfl)) dX0_clerk_2 ⟨Nat.le_of_ble_eq_true rfl, Nat.le_of_ble_eq_true rfl⟩) (fun r_2 er_1 => ?_)
  have er_1 := er_1.symm
  subst er_1
  refine lv_if_eq (tgt := 17) hx hb dX0_clerk_5 (by decide) (fun c_3 => ?_) (fun c_3 => ?_)
  · have hf := (if_pos c_3).symm.trans hf
    refine lv_iconst (v := (-1)) hx hb dX0_clerk_17 (by decide) ?_
    have hf := Option.some.inj hf
    rw [← hQ]
    exact W.iret (v := (-1)) hx hb hr (fun t ht hW => ⟨_, rfl, hf, ht⟩) (fun _ h => by cases h) dX0_clerk_18
  · have hf := (if_neg c_3).symm.trans hf
    refine lv_iload_n hx hb dX0_clerk_8 rfl (lv_at hl 2 rfl) ?_
    refine lv_iconst (v := 0) hx hb dX0_clerk_9 (by decide) ?_
    refine lv_iconst (v := 2) hx hb dX0_clerk_10 (by decide) ?_
    refine vp_callSi (W.runS (As := [.int a2, .int 0, .int 2]) (rest := []) ⟨hx, hb, hml, hown, hts⟩ (wX0_in l a2 0 2 (fX0_in a2 0 2) rfl) (va_cwS 3 hts (lw_S q343 q344 q60 q345) rfl rfl rfl (by decide +kernel) ⟨Nat.le_of_ble_eq_true rfl, Nat.le_of_ble_eq_true rfl⟩) (sm_ps) rfl rfl hl.1 rfl (lv_room (Nat.le_of_ble_eq_true rfl)) dX0_clerk_11 ⟨Nat.le_of_ble_eq_true rfl, Nat.le_of_ble_eq_true rfl⟩) (fun r_5 er_4 => ?_)
    have er_4 := er_4.symm
    subst er_4
    refine lv_if_ne (tgt := 19) hx hb dX0_clerk_14 (by decide) (fun c_6 => ?_) (fun c_6 => ?_)
    · have hf := (if_neg c_6).symm.trans hf
      refine lv_iload_n hx hb dX0_clerk_19 rfl (lv_at hl 2 rfl) ?_
      refine lv_if_ne (tgt := 35) hx hb dX0_clerk_20 (by decide) (fun c_7 => ?_) (fun c_7 => ?_)
      · have hf := (if_neg c_7).symm.trans hf
        refine lv_iload_n hx hb dX0_clerk_35 rfl (lv_at hl 2 rfl) ?_
        refine lv_iconst (v := 1) hx hb dX0_clerk_36 (by decide) ?_
        refine lv_icmp_ne (tgt := 52) hx hb dX0_clerk_37 (by decide) (fun c_8 => ?_) (fun c_8 => ?_)
        · have hf := (if_neg c_8).symm.trans hf
          refine lv_aload_n hx hb dX0_clerk_52 rfl (lv_at hl 0 rfl) ?_
          refine va_get (D := (g.1, g.2.1)) (ci := 0) (v := .ref (ad 1)) (C := RX0) (T := TX0) (N := 20) hx hb hts in_X0 hown hK hP 0 rfl rfl 0 (by decide) (hts _ q269) (fun _ h9 => h9) rfl dX0_clerk_53 ?_
          refine va_getN (D := (g.1, g.2.1)) (ci := 1) (v := .ref (ad 7)) (C := RX1) (T := TX1) (N := 9) hx hb hts in_X1 hown hK hP 1 rfl rfl 5 (by decide) (va_Nw.use rfl (hN _ q119 rfl)) (fun _ h9 => h9) rfl dX0_clerk_56 ?_
          refine lv_iload_n hx hb dX0_clerk_59 rfl (lv_at hl 1 rfl) ?_
          obtain ⟨hg, hf⟩ := sm_gd_e hf
          refine va_iald hx hb hK hP 7 0 rfl rfl (sm_in hg) dX0_clerk_60 ?_
          have hf := Option.some.inj hf
          rw [← hQ]
          exact W.iret (v := S.2.2.2.2.1.2 5 a1.toNatClampNeg) hx hb hr (fun t ht hW => ⟨_, rfl, hf, ht⟩) (fun _ h => by cases h) dX0_clerk_61
        · have hf := (if_pos c_8).symm.trans hf
          refine lv_aload_n hx hb dX0_clerk_40 rfl (lv_at hl 0 rfl) ?_
          refine va_get (D := (g.1, g.2.1)) (ci := 0) (v := .ref (ad 1)) (C := RX0) (T := TX0) (N := 20) hx hb hts in_X0 hown hK hP 0 rfl rfl 0 (by decide) (hts _ q269) (fun _ h9 => h9) rfl dX0_clerk_41 ?_
          refine va_getN (D := (g.1, g.2.1)) (ci := 1) (v := .ref (ad 6)) (C := RX1) (T := TX1) (N := 9) hx hb hts in_X1 hown hK hP 1 rfl rfl 4 (by decide) (va_Nw.use rfl (hN _ q115 rfl)) (fun _ h9 => h9) rfl dX0_clerk_44 ?_
          refine lv_iload_n hx hb dX0_clerk_47 rfl (lv_at hl 1 rfl) ?_
          obtain ⟨hg, hf⟩ := sm_gd_e hf
          refine va_iald hx hb hK hP 6 0 rfl rfl (sm_in hg) dX0_clerk_48 ?_
          refine lv_goto (tgt := 61) hx hb dX0_clerk_49 (by decide) ?_
          have hf := Option.some.inj hf
          rw [← hQ]
          exact W.iret (v := S.2.2.2.2.1.2 4 a1.toNatClampNeg) hx hb hr (fun t ht hW => ⟨_, rfl, hf, ht⟩) (fun _ h => by cases h) dX0_clerk_61
      · have hf := (if_pos c_7).symm.trans hf
        refine lv_aload_n hx hb dX0_clerk_23 rfl (lv_at hl 0 rfl) ?_
        refine va_get (D := (g.1, g.2.1)) (ci := 0) (v := .ref (ad 1)) (C := RX0) (T := TX0) (N := 20) hx hb hts in_X0 hown hK hP 0 rfl rfl 0 (by decide) (hts _ q269) (fun _ h9 => h9) rfl dX0_clerk_24 ?_
        refine va_getN (D := (g.1, g.2.1)) (ci := 1) (v := .ref (ad 5)) (C := RX1) (T := TX1) (N := 9) hx hb hts in_X1 hown hK hP 1 rfl rfl 3 (by decide) (va_Nw.use rfl (hN _ q111 rfl)) (fun _ h9 => h9) rfl dX0_clerk_27 ?_
        refine lv_iload_n hx hb dX0_clerk_30 rfl (lv_at hl 1 rfl) ?_
        obtain ⟨hg, hf⟩ := sm_gd_e hf
        refine va_iald hx hb hK hP 5 0 rfl rfl (sm_in hg) dX0_clerk_31 ?_
        refine lv_goto (tgt := 61) hx hb dX0_clerk_32 (by decide) ?_
        have hf := Option.some.inj hf
        rw [← hQ]
        exact W.iret (v := S.2.2.2.2.1.2 3 a1.toNatClampNeg) hx hb hr (fun t ht hW => ⟨_, rfl, hf, ht⟩) (fun _ h => by cases h) dX0_clerk_61
    · have hf := (if_pos c_6).symm.trans hf
      refine lv_iconst (v := (-1)) hx hb dX0_clerk_17 (by decide) ?_
      have hf := Option.some.inj hf
      rw [← hQ]
      exact W.iret (v := (-1)) hx hb hr (fun t ht hW => ⟨_, rfl, hf, ht⟩) (fun _ h => by cases h) dX0_clerk_18
