/-! SmokedLettersModel, walked: printed by gen/model.py -/
set_option maxRecDepth 100000
abbrev rX9_type : Room := { frames := 1, cells := 0, slots := 0, locals := 22 }
set_option maxHeartbeats 4000000 in
theorem wX9_type (l : Launch) (g : GG) (ad : Nat → Nat) (S : MS) (a1 : Int32) (Sf : MS) (rf : Int32) (hf : fX9_type S a1 = some (Sf, rf)) : Met l yX9_type (ws_ yX9_type cX9_type 2 (some .int)) rX9_type (va_Pc [.ref (ad 0), .int a1] (fun U => PP g (WM g ad S) U.heap ∧ EV g U ∧ va_D (AM ad) (WM g ad S))) (va_Qi (fun y (_ : Unit) => y = rf) (fun _ t => PP g (WM g ad Sf) t.heap ∧ va_D (AM ad) (WM g ad Sf)) (AM ad)) 0 0 (AM ad) := by
  refine sm_st (by decide) ?_
  intro p e s m args below meth c hx hb hr hlocks hml hown hnm hts hv
  obtain ⟨hargs, hP, hE, hD⟩ := hv
  obtain ⟨hK, hN⟩ := id hE
  have hS : va_S (AM ad) s.heap s.heap [] := va_S.rf
  have hown : s.vm.findClass RX9 = some m.cls := hown
  refine sm_en _ (Nat.le_of_ble_eq_true rfl) hargs (fun ls hl => ?_)
  have hl : lv_has ls 2 [(0, .ref (ad 0)), (1, .int a1)] := hl
  generalize hQ : MQ below _ args s _ _ _ = Q
  unfold fX9_type at hf
  refine lv_iload_n hx hb dX9_type_0 rfl (lv_at hl 1 rfl) ?_
  refine lv_iconst (v := 0) hx hb dX9_type_1 (by decide) ?_
  refine lv_sipush (v := 255) hx hb dX9_type_2 (by decide) ?_
  refine vp_callSi (W.runS (As := [.int a1, .int 0, .int 255]) (rest := []) ⟨hx, hb, hml, hown, hts⟩ (wX9_in l a1 0 255 (fX9_in a1 0 255) rfl) (va_cwS 3 hts (lw_S q979 q980 q70 q981) rfl rfl rfl (by decide +kernel) ⟨Nat.le_of_ble_eq_true rfl, Nat.le_of_ble_eq_true rfl⟩) (sm_ps) rfl rfl hl.1 rfl (lv_room (Nat.le_of_ble_eq_true rfl)) dX9_type_5 ⟨Nat.le_of_ble_eq_true rfl, Nat.le_of_ble_eq_true rfl⟩) (fun r_2 er_1 => ?_)
  have er_1 := er_1.symm
  subst er_1
  refine lv_if_ne (tgt := 13) hx hb dX9_type_8 (by decide) (fun c_3 => ?_) (fun c_3 => ?_)
  · have hf := (if_neg c_3).symm.trans hf
    refine lv_aload_n hx hb dX9_type_13 rfl (lv_at hl 0 rfl) ?_
    refine va_get (D := (g.1, g.2.1)) (ci := 9) (v := .int (S.1 18)) (C := RX9) (T := TX9) (N := 39) hx hb hts in_X9 hown hK hP 0 rfl rfl 18 (by decide) (hts _ q874) (fun _ h9 => h9) rfl dX9_type_14 ?_
    refine lv_sipush (v := 200) hx hb dX9_type_17 (by decide) ?_
    refine lv_icmp_ne (tgt := 26) hx hb dX9_type_20 (by decide) (fun c_4 => ?_) (fun c_4 => ?_)
    · have hf := (if_neg c_4).symm.trans hf
      refine lv_aload_n hx hb dX9_type_26 rfl (lv_at hl 0 rfl) ?_
      refine va_get (D := (g.1, g.2.1)) (ci := 9) (v := .ref (ad 17)) (C := RX9) (T := TX9) (N := 39) hx hb hts in_X9 hown hK hP 0 rfl rfl 17 (by decide) (hts _ q873) (fun _ h9 => h9) rfl dX9_type_27 ?_
      refine lv_aload_n hx hb dX9_type_30 rfl (lv_at hl 0 rfl) ?_
      refine va_get (D := (g.1, g.2.1)) (ci := 9) (v := .int (S.1 18)) (C := RX9) (T := TX9) (N := 39) hx hb hts in_X9 hown hK hP 0 rfl rfl 18 (by decide) (hts _ q874) (fun _ h9 => h9) rfl dX9_type_31 ?_
      refine lv_iload_n hx hb dX9_type_34 rfl (lv_at hl 1 rfl) ?_
      obtain ⟨hg, hf⟩ := sm_gd_e hf
      refine va_iast (i := S.1 18) (x := a1) hx hb hK hP hD hS 9 0 rfl rfl (sm_in hg) dX9_type_35 (fun H locs hP hD hS => ?_)
      obtain ⟨S_5, eS_5, hf⟩ := sm_lt_e hf
      have hP : PP g (WM g ad S_5) H := by rw [eS_5]; exact pmr17 hP
      have hD : va_D (AM ad) (WM g ad S_5) := by rw [eS_5]; exact dmr17 hD
      refine lv_aload_n hx hb dX9_type_36 rfl (lv_at hl 0 rfl) ?_
      refine lv_dup hx hb dX9_type_37 rfl ?_
      refine va_get (D := (g.1, g.2.1)) (ci := 9) (v := .int (S_5.1 18)) (C := RX9) (T := TX9) (N := 39) hx hb hts in_X9 hown hK hP 0 rfl rfl 18 (by decide) (hts _ q874) (fun _ h9 => h9) rfl dX9_type_38 ?_
      refine lv_iconst (v := 1) hx hb dX9_type_41 (by decide) ?_
      refine lv_iadd hx hb dX9_type_42 ?_
      refine va_put (D := (g.1, g.2.1)) (ci := 9) (v := .int ((S_5.1 18) + 1)) (ty := .int) (C := RX9) (T := TX9) (N := 39) hx hb hts in_X9 tyX9 tyX9_ok nmX9 hown hK hP hD hS 0 rfl rfl 18 (by decide) (hts _ q874) (fun _ h9 => h9) rfl (by decide +kernel) rfl rfl (Nat.le_of_ble_eq_true rfl) dX9_type_43 (fun H locs hP hD hS => ?_)
      obtain ⟨S_6, eS_6, hf⟩ := sm_lt_e hf
      have hP : PP g (WM g ad S_6) H := by rw [eS_6]; exact pmf18 hP
      have hD : va_D (AM ad) (WM g ad S_6) := by rw [eS_6]; exact dmf18 hD
      refine lv_aload_n hx hb dX9_type_46 rfl (lv_at hl 0 rfl) ?_
      refine va_get (D := (g.1, g.2.1)) (ci := 9) (v := .int (S_6.1 18)) (C := RX9) (T := TX9) (N := 39) hx hb hts in_X9 hown hK hP 0 rfl rfl 18 (by decide) (hts _ q874) (fun _ h9 => h9) rfl dX9_type_47 ?_
      have hf := Option.some.inj hf
      rw [← hQ]
      have hf := Prod.mk.inj hf
      exact W.iret (v := S_6.1 18) hx hb hr (fun t ht hW => ⟨⟨_, (), rfl, hf.2, by rw [ht, ← hf.1]; exact hP, by rw [← hf.1]; exact hD⟩, hS.F ht⟩) hS.2.2 dX9_type_50
    · have hf := (if_pos c_4).symm.trans hf
      refine lv_bipush (v := (-3)) hx hb dX9_type_23 (by decide) ?_
      have hf := Option.some.inj hf
      rw [← hQ]
      have hf := Prod.mk.inj hf
      exact W.iret (v := (-3)) hx hb hr (fun t ht hW => ⟨⟨_, (), rfl, hf.2, by rw [ht, ← hf.1]; exact hP, by rw [← hf.1]; exact hD⟩, hS.F ht⟩) hS.2.2 dX9_type_25
  · have hf := (if_pos c_3).symm.trans hf
    refine lv_iconst (v := (-1)) hx hb dX9_type_11 (by decide) ?_
    have hf := Option.some.inj hf
    rw [← hQ]
    have hf := Prod.mk.inj hf
    exact W.iret (v := (-1)) hx hb hr (fun t ht hW => ⟨⟨_, (), rfl, hf.2, by rw [ht, ← hf.1]; exact hP, by rw [← hf.1]; exact hD⟩, hS.F ht⟩) hS.2.2 dX9_type_12
abbrev rX9_undo : Room := { frames := 0, cells := 0, slots := 0, locals := 0 }
set_option maxHeartbeats 4000000 in
theorem wX9_undo (l : Launch) (g : GG) (ad : Nat → Nat) (S : MS) (Sf : MS) (rf : Int32) (hf : fX9_undo S = some (Sf, rf)) : Met l yX9_undo (ws_ yX9_undo cX9_undo 2 (some .int)) rX9_undo (va_Pc [.ref (ad 0)] (fun U => PP g (WM g ad S) U.heap ∧ EV g U ∧ va_D (AM ad) (WM g ad S))) (va_Qi (fun y (_ : Unit) => y = rf) (fun _ t => PP g (WM g ad Sf) t.heap ∧ va_D (AM ad) (WM g ad Sf)) (AM ad)) 0 0 (AM ad) := by
  refine sm_st (by decide) ?_
  intro p e s m args below meth c hx hb hr hlocks hml hown hnm hts hv
  obtain ⟨hargs, hP, hE, hD⟩ := hv
  obtain ⟨hK, hN⟩ := id hE
  have hS : va_S (AM ad) s.heap s.heap [] := va_S.rf
  have hown : s.vm.findClass RX9 = some m.cls := hown
  refine sm_en _ (Nat.le_of_ble_eq_true rfl) hargs (fun ls hl => ?_)
  have hl : lv_has ls 2 [(0, .ref (ad 0))] := hl
  generalize hQ : MQ below _ args s _ _ _ = Q
  unfold fX9_undo at hf
  refine lv_aload_n hx hb dX9_undo_0 rfl (lv_at hl 0 rfl) ?_
  refine va_get (D := (g.1, g.2.1)) (ci := 9) (v := .int (S.1 9)) (C := RX9) (T := TX9) (N := 39) hx hb hts in_X9 hown hK hP 0 rfl rfl 9 (by decide) (hts _ q865) (fun _ h9 => h9) rfl dX9_undo_1 ?_
  refine lv_if_ne (tgt := 10) hx hb dX9_undo_4 (by decide) (fun c_1 => ?_) (fun c_1 => ?_)
  · have hf := (if_neg c_1).symm.trans hf
    refine lv_aload_n hx hb dX9_undo_10 rfl (lv_at hl 0 rfl) ?_
    refine lv_dup hx hb dX9_undo_11 rfl ?_
    refine va_get (D := (g.1, g.2.1)) (ci := 9) (v := .int (S.1 9)) (C := RX9) (T := TX9) (N := 39) hx hb hts in_X9 hown hK hP 0 rfl rfl 9 (by decide) (hts _ q865) (fun _ h9 => h9) rfl dX9_undo_12 ?_
    refine lv_iconst (v := 1) hx hb dX9_undo_15 (by decide) ?_
    refine lv_isub hx hb dX9_undo_16 ?_
    refine va_put (D := (g.1, g.2.1)) (ci := 9) (v := .int ((S.1 9) - 1)) (ty := .int) (C := RX9) (T := TX9) (N := 39) hx hb hts in_X9 tyX9 tyX9_ok nmX9 hown hK hP hD hS 0 rfl rfl 9 (by decide) (hts _ q865) (fun _ h9 => h9) rfl (by decide +kernel) rfl rfl (Nat.le_of_ble_eq_true rfl) dX9_undo_17 (fun H locs hP hD hS => ?_)
    obtain ⟨S_2, eS_2, hf⟩ := sm_lt_e hf
    have hP : PP g (WM g ad S_2) H := by rw [eS_2]; exact pmf9 hP
    have hD : va_D (AM ad) (WM g ad S_2) := by rw [eS_2]; exact dmf9 hD
    refine lv_iconst (v := 0) hx hb dX9_undo_20 (by decide) ?_
    refine lv_istore_n (lv' := [(1, .int 0), (0, .ref (ad 0))]) hx hb dX9_undo_21 rfl hl (by decide) rfl (fun ls hl => ?_)
    have L_10 : ∀ (n : Nat) (x_3 : Int32) (S_4 : MS) (o_11 : Int32) (o_12 : MS) (H : Heap) (locs : List Loc) (ls : Array Slot), sm_lp (fun q => fX9_undo_22 q.1 q.2) n (x_3, S_4) = some (o_11, o_12) → PP g (WM g ad S_4) H → va_D (AM ad) (WM g ad S_4) → va_S (AM ad) s.heap H locs → lv_has ls 2 [(0, .ref (ad 0)), (1, .int x_3)] → (∀ (H : Heap) (locs : List Loc) (ls : Array Slot), PP g (WM g ad o_12) H → va_D (AM ad) (WM g ad o_12) → va_S (AM ad) s.heap H locs → lv_has ls 2 [(0, .ref (ad 0)), (1, .int o_11)] → W p l e rX9_undo s m args below meth c H locs 0 0 Q (F0 m 54 ls [])) → W p l e rX9_undo s m args below meth c H locs 0 0 Q (F0 m 22 ls []) := by
      intro n
      induction n with
      | zero =>
        intro _ _ _ _ _ _ _ hf
        cases hf
      | succ n ih_5 =>
        intro x_3 S_4 o_11 o_12 H locs ls hf hP hD hS hl kx_6
        obtain ⟨q, hf, hc_9⟩ := sm_bnd hf
        have hf : fX9_undo_22 x_3 S_4 = some q := hf
        unfold fX9_undo_22 at hf
        refine lv_iload_n hx hb dX9_undo_22 rfl (lv_at hl 1 rfl) ?_
        refine lv_bipush (v := 26) hx hb dX9_undo_23 (by decide) ?_
        refine lv_icmp_ge (tgt := 54) hx hb dX9_undo_25 (by decide) (fun c_13 => ?_) (fun c_13 => ?_)
        · have hf := (if_pos c_13).symm.trans hf
          cases hf
          have hc_9 : some (x_3, S_4) = some (o_11, o_12) := hc_9
          cases hc_9
          exact kx_6 _ _ _ hP hD hS (lv_sub hl [0, 1] rfl)
        · have hf := (if_neg c_13).symm.trans hf
          refine lv_aload_n hx hb dX9_undo_28 rfl (lv_at hl 0 rfl) ?_
          refine va_get (D := (g.1, g.2.1)) (ci := 9) (v := .ref (ad 7)) (C := RX9) (T := TX9) (N := 39) hx hb hts in_X9 hown hK hP 0 rfl rfl 7 (by decide) (hts _ q863) (fun _ h9 => h9) rfl dX9_undo_29 ?_
          refine lv_iload_n hx hb dX9_undo_32 rfl (lv_at hl 1 rfl) ?_
          refine lv_aload_n hx hb dX9_undo_33 rfl (lv_at hl 0 rfl) ?_
          refine va_get (D := (g.1, g.2.1)) (ci := 9) (v := .ref (ad 8)) (C := RX9) (T := TX9) (N := 39) hx hb hts in_X9 hown hK hP 0 rfl rfl 8 (by decide) (hts _ q864) (fun _ h9 => h9) rfl dX9_undo_34 ?_
          refine lv_bipush (v := 26) hx hb dX9_undo_37 (by decide) ?_
          refine lv_aload_n hx hb dX9_undo_39 rfl (lv_at hl 0 rfl) ?_
          refine va_get (D := (g.1, g.2.1)) (ci := 9) (v := .int (S_4.1 9)) (C := RX9) (T := TX9) (N := 39) hx hb hts in_X9 hown hK hP 0 rfl rfl 9 (by decide) (hts _ q865) (fun _ h9 => h9) rfl dX9_undo_40 ?_
          refine lv_imul hx hb dX9_undo_43 ?_
          refine lv_iload_n hx hb dX9_undo_44 rfl (lv_at hl 1 rfl) ?_
          refine lv_iadd hx hb dX9_undo_45 ?_
          obtain ⟨hg, hf⟩ := sm_gd_e hf
          refine va_iald hx hb hK hP 4 0 rfl rfl (sm_in hg) dX9_undo_46 ?_
          obtain ⟨hg, hf⟩ := sm_gd_e hf
          refine va_iast (i := x_3) (x := S_4.2.1 8 ((26 * (S_4.1 9)) + x_3).toNatClampNeg) hx hb hK hP hD hS 3 0 rfl rfl (sm_in hg) dX9_undo_47 (fun H locs hP hD hS => ?_)
          obtain ⟨S_14, eS_14, hf⟩ := sm_lt_e hf
          have hP : PP g (WM g ad S_14) H := by rw [eS_14]; exact pmr7 hP
          have hD : va_D (AM ad) (WM g ad S_14) := by rw [eS_14]; exact dmr7 hD
          refine lv_iinc (v := x_3 + 1) (lv' := [(1, .int (x_3 + 1)), (0, .ref (ad 0))]) hx hb dX9_undo_48 hl (k := 1) rfl rfl (by decide) rfl (fun ls hl => ?_)
          refine lv_goto (tgt := 22) hx hb dX9_undo_51 (by decide) ?_
          cases hf
          exact ih_5 _ _ _ _ _ _ _ hc_9 hP hD hS (lv_sub hl [1, 0] rfl) kx_6
    obtain ⟨x_16, S_17, ho, hf⟩ := sm_b2_e hf
    refine L_10 FU 0 S_2 x_16 S_17 H locs ls ho hP hD hS (lv_sub hl [1, 0] rfl) ?_
    intro H locs ls hP hD hS hl
    refine lv_aload_n hx hb dX9_undo_54 rfl (lv_at hl 0 rfl) ?_
    refine va_get (D := (g.1, g.2.1)) (ci := 9) (v := .int (S_17.1 9)) (C := RX9) (T := TX9) (N := 39) hx hb hts in_X9 hown hK hP 0 rfl rfl 9 (by decide) (hts _ q865) (fun _ h9 => h9) rfl dX9_undo_55 ?_
    have hf := Option.some.inj hf
    rw [← hQ]
    have hf := Prod.mk.inj hf
    exact W.iret (v := S_17.1 9) hx hb hr (fun t ht hW => ⟨⟨_, (), rfl, hf.2, by rw [ht, ← hf.1]; exact hP, by rw [← hf.1]; exact hD⟩, hS.F ht⟩) hS.2.2 dX9_undo_58
  · have hf := (if_pos c_1).symm.trans hf
    refine lv_bipush (v := (-2)) hx hb dX9_undo_7 (by decide) ?_
    have hf := Option.some.inj hf
    rw [← hQ]
    have hf := Prod.mk.inj hf
    exact W.iret (v := (-2)) hx hb hr (fun t ht hW => ⟨⟨_, (), rfl, hf.2, by rw [ht, ← hf.1]; exact hP, by rw [← hf.1]; exact hD⟩, hS.F ht⟩) hS.2.2 dX9_undo_9
abbrev rX9_vinegar_3 : Room := { frames := 0, cells := 0, slots := 0, locals := 0 }
set_option maxHeartbeats 4000000 in
theorem wX9_vinegar_3 (l : Launch) (g : GG) (ad : Nat → Nat) (S : MS) (a2 : Int32) (rf : Int32) (hf : fX9_vinegar_3 S a2 = some rf) : Met l yX9_vinegar (ws_ yX9_vinegar cX9_vinegar 7 (some .int)) rX9_vinegar_3 (va_Pc [.ref (ad 0), .ref (ad 7), .int a2] (fun U => PP g (WM g ad S) U.heap ∧ EV g U)) (vp_Si (fun y => y = rf)) 0 0 (fun _ => False) := by
  refine sm_st (by decide) ?_
  intro p e s m args below meth c hx hb hr hlocks hml hown hnm hts hv
  obtain ⟨hargs, hP, hE⟩ := hv
  obtain ⟨hK, hN⟩ := id hE
  have hown : s.vm.findClass RX9 = some m.cls := hown
  refine sm_en _ (Nat.le_of_ble_eq_true rfl) hargs (fun ls hl => ?_)
  have hl : lv_has ls 7 [(0, .ref (ad 0)), (1, .ref (ad 7)), (2, .int a2)] := hl
  generalize hQ : MQ below _ args s _ _ _ = Q
  unfold fX9_vinegar_3 at hf
  refine lv_iconst (v := 0) hx hb dX9_vinegar_0 (by decide) ?_
  refine lv_istore_n (lv' := [(3, .int 0), (0, .ref (ad 0)), (1, .ref (ad 7)), (2, .int a2)]) hx hb dX9_vinegar_1 rfl hl (by decide) rfl (fun ls hl => ?_)
  refine lv_iconst (v := 0) hx hb dX9_vinegar_2 (by decide) ?_
  refine lv_istore (lv' := [(4, .int 0), (3, .int 0), (0, .ref (ad 0)), (1, .ref (ad 7)), (2, .int a2)]) hx hb dX9_vinegar_3 hl (by decide) rfl (fun ls hl => ?_)
  have L_8 : ∀ (n : Nat) (x_1 : Int32) (x_2 : Int32) (o_9 : Int32) (o_10 : Int32) (ls : Array Slot), sm_lp (fun q => fX9_vinegar_3_5 S a2 q.1 q.2) n (x_1, x_2) = some (o_9, o_10) → lv_has ls 7 [(0, .ref (ad 0)), (1, .ref (ad 7)), (2, .int a2), (4, .int x_1), (3, .int x_2)] → (∀ (ls : Array Slot), lv_has ls 7 [(0, .ref (ad 0)), (1, .ref (ad 7)), (2, .int a2), (4, .int o_9), (3, .int o_10)] → W p l e rX9_vinegar_3 s m args below meth c s.heap [] 0 0 Q (F0 m 80 ls [])) → W p l e rX9_vinegar_3 s m args below meth c s.heap [] 0 0 Q (F0 m 5 ls []) := by
    intro n
    induction n with
    | zero =>
      intro _ _ _ _ _ hf
      cases hf
    | succ n ih_3 =>
      intro x_1 x_2 o_9 o_10 ls hf hl kx_4
      obtain ⟨q, hf, hc_7⟩ := sm_bnd hf
      have hf : fX9_vinegar_3_5 S a2 x_1 x_2 = some q := hf
      unfold fX9_vinegar_3_5 at hf
      refine lv_iload hx hb dX9_vinegar_5 (lv_at hl 3 rfl) ?_
      refine lv_aload_n hx hb dX9_vinegar_7 rfl (lv_at hl 0 rfl) ?_
      refine va_get (D := (g.1, g.2.1)) (ci := 9) (v := .int (S.1 1)) (C := RX9) (T := TX9) (N := 39) hx hb hts in_X9 hown hK hP 0 rfl rfl 1 (by decide) (hts _ q857) (fun _ h9 => h9) rfl dX9_vinegar_8 ?_
      refine lv_icmp_ge (tgt := 80) hx hb dX9_vinegar_11 (by decide) (fun c_11 => ?_) (fun c_11 => ?_)
      · have hf := (if_pos c_11).symm.trans hf
        cases hf
        have hc_7 : some (x_1, x_2) = some (o_9, o_10) := hc_7
        cases hc_7
        exact kx_4 _ (lv_sub hl [0, 1, 2, 3, 4] rfl)
      · have hf := (if_neg c_11).symm.trans hf
        refine lv_iconst (v := 0) hx hb dX9_vinegar_14 (by decide) ?_
        refine lv_istore (lv' := [(5, .int 0), (0, .ref (ad 0)), (1, .ref (ad 7)), (2, .int a2), (4, .int x_1), (3, .int x_2)]) hx hb dX9_vinegar_15 hl (by decide) rfl (fun ls hl => ?_)
        refine lv_iconst (v := 0) hx hb dX9_vinegar_17 (by decide) ?_
        refine lv_istore (lv' := [(6, .int 0), (5, .int 0), (0, .ref (ad 0)), (1, .ref (ad 7)), (2, .int a2), (4, .int x_1), (3, .int x_2)]) hx hb dX9_vinegar_18 hl (by decide) rfl (fun ls hl => ?_)
        have L_19 : ∀ (n : Nat) (x_12 : Int32) (x_13 : Int32) (o_20 : Int32) (o_21 : Int32) (ls : Array Slot), sm_lp (fun q => fX9_vinegar_3_20 S a2 x_1 q.1 q.2) n (x_12, x_13) = some (o_20, o_21) → lv_has ls 7 [(0, .ref (ad 0)), (1, .ref (ad 7)), (2, .int a2), (4, .int x_1), (3, .int x_2), (6, .int x_12), (5, .int x_13)] → (∀ (ls : Array Slot), lv_has ls 7 [(0, .ref (ad 0)), (1, .ref (ad 7)), (2, .int a2), (4, .int x_1), (3, .int x_2), (6, .int o_20), (5, .int o_21)] → W p l e rX9_vinegar_3 s m args below meth c s.heap [] 0 0 Q (F0 m 56 ls [])) → W p l e rX9_vinegar_3 s m args below meth c s.heap [] 0 0 Q (F0 m 20 ls []) := by
          intro n
          induction n with
          | zero =>
            intro _ _ _ _ _ hf
            cases hf
          | succ n ih_14 =>
            intro x_12 x_13 o_20 o_21 ls hf hl kx_15
            obtain ⟨q, hf, hc_18⟩ := sm_bnd hf
            have hf : fX9_vinegar_3_20 S a2 x_1 x_12 x_13 = some q := hf
            unfold fX9_vinegar_3_20 at hf
            refine lv_iload hx hb dX9_vinegar_20 (lv_at hl 5 rfl) ?_
            refine lv_aload_n hx hb dX9_vinegar_22 rfl (lv_at hl 0 rfl) ?_
            refine va_get (D := (g.1, g.2.1)) (ci := 9) (v := .int (S.1 3)) (C := RX9) (T := TX9) (N := 39) hx hb hts in_X9 hown hK hP 0 rfl rfl 3 (by decide) (hts _ q859) (fun _ h9 => h9) rfl dX9_vinegar_23 ?_
            refine lv_icmp_ge (tgt := 56) hx hb dX9_vinegar_26 (by decide) (fun c_22 => ?_) (fun c_22 => ?_)
            · have hf := (if_pos c_22).symm.trans hf
              cases hf
              have hc_18 : some (x_12, x_13) = some (o_20, o_21) := hc_18
              cases hc_18
              exact kx_15 _ (lv_sub hl [0, 1, 2, 3, 4, 5, 6] rfl)
            · have hf := (if_neg c_22).symm.trans hf
              refine lv_iload hx hb dX9_vinegar_29 (lv_at hl 6 rfl) ?_
              refine lv_aload_n hx hb dX9_vinegar_31 rfl (lv_at hl 1 rfl) ?_
              refine lv_iload_n hx hb dX9_vinegar_32 rfl (lv_at hl 2 rfl) ?_
              refine lv_iload hx hb dX9_vinegar_33 (lv_at hl 5 rfl) ?_
              refine lv_iadd hx hb dX9_vinegar_35 ?_
              obtain ⟨hg, hf⟩ := sm_gd_e hf
              refine va_iald hx hb hK hP 3 0 rfl rfl (sm_in hg) dX9_vinegar_36 ?_
              refine lv_iload hx hb dX9_vinegar_37 (lv_at hl 3 rfl) ?_
              refine lv_icmp_ne (tgt := 46) hx hb dX9_vinegar_39 (by decide) (fun c_23 => ?_) (fun c_23 => ?_)
              · have hf := (if_neg c_23).symm.trans hf
                refine lv_iconst (v := 0) hx hb dX9_vinegar_46 (by decide) ?_
                refine lv_iadd hx hb dX9_vinegar_47 ?_
                refine lv_istore (lv' := [(5, .int (x_13 + 0)), (0, .ref (ad 0)), (1, .ref (ad 7)), (2, .int a2), (4, .int x_1), (3, .int x_2), (6, .int x_12)]) hx hb dX9_vinegar_48 hl (by decide) rfl (fun ls hl => ?_)
                refine lv_iinc (v := x_12 + 1) (lv' := [(6, .int (x_12 + 1)), (5, .int (x_13 + 0)), (0, .ref (ad 0)), (1, .ref (ad 7)), (2, .int a2), (4, .int x_1), (3, .int x_2)]) hx hb dX9_vinegar_50 hl (k := 6) rfl rfl (by decide) rfl (fun ls hl => ?_)
                refine lv_goto (tgt := 20) hx hb dX9_vinegar_53 (by decide) ?_
                cases hf
                exact ih_14 _ _ _ _ _ hc_18 (lv_sub hl [2, 3, 4, 5, 6, 0, 1] rfl) kx_15
              · have hf := (if_pos c_23).symm.trans hf
                refine lv_iconst (v := 1) hx hb dX9_vinegar_42 (by decide) ?_
                refine lv_goto (tgt := 47) hx hb dX9_vinegar_43 (by decide) ?_
                refine lv_iadd hx hb dX9_vinegar_47 ?_
                refine lv_istore (lv' := [(5, .int (x_13 + 1)), (0, .ref (ad 0)), (1, .ref (ad 7)), (2, .int a2), (4, .int x_1), (3, .int x_2), (6, .int x_12)]) hx hb dX9_vinegar_48 hl (by decide) rfl (fun ls hl => ?_)
                refine lv_iinc (v := x_12 + 1) (lv' := [(6, .int (x_12 + 1)), (5, .int (x_13 + 1)), (0, .ref (ad 0)), (1, .ref (ad 7)), (2, .int a2), (4, .int x_1), (3, .int x_2)]) hx hb dX9_vinegar_50 hl (k := 6) rfl rfl (by decide) rfl (fun ls hl => ?_)
                refine lv_goto (tgt := 20) hx hb dX9_vinegar_53 (by decide) ?_
                cases hf
                exact ih_14 _ _ _ _ _ hc_18 (lv_sub hl [2, 3, 4, 5, 6, 0, 1] rfl) kx_15
        obtain ⟨x_25, x_26, ho, hf⟩ := sm_b2_e hf
        refine L_19 FU 0 0 x_25 x_26 ls ho (lv_sub hl [2, 3, 4, 5, 6, 0, 1] rfl) ?_
        intro ls hl
        refine lv_iload_n hx hb dX9_vinegar_56 rfl (lv_at hl 4 rfl) ?_
        refine lv_iload hx hb dX9_vinegar_57 (lv_at hl 6 rfl) ?_
        refine lv_if_ne (tgt := 66) hx hb dX9_vinegar_59 (by decide) (fun c_27 => ?_) (fun c_27 => ?_)
        · have hf := (if_neg c_27).symm.trans hf
          refine lv_iconst (v := 1) hx hb dX9_vinegar_66 (by decide) ?_
          refine lv_iload hx hb dX9_vinegar_67 (lv_at hl 6 rfl) ?_
          refine lv_iconst (v := 2) hx hb dX9_vinegar_69 (by decide) ?_
          refine lv_idiv hx hb dX9_vinegar_70 (by decide) ?_
          refine lv_iadd hx hb dX9_vinegar_71 ?_
          refine lv_iadd hx hb dX9_vinegar_72 ?_
          refine lv_istore_n (lv' := [(3, .int (x_2 + (1 + (x_26 / 2)))), (0, .ref (ad 0)), (1, .ref (ad 7)), (2, .int a2), (4, .int x_1), (6, .int x_25), (5, .int x_26)]) hx hb dX9_vinegar_73 rfl hl (by decide) rfl (fun ls hl => ?_)
          refine lv_iinc (v := x_1 + 1) (lv' := [(4, .int (x_1 + 1)), (3, .int (x_2 + (1 + (x_26 / 2)))), (0, .ref (ad 0)), (1, .ref (ad 7)), (2, .int a2), (6, .int x_25), (5, .int x_26)]) hx hb dX9_vinegar_74 hl (k := 4) rfl rfl (by decide) rfl (fun ls hl => ?_)
          refine lv_goto (tgt := 5) hx hb dX9_vinegar_77 (by decide) ?_
          cases hf
          exact ih_3 _ _ _ _ _ hc_7 (lv_sub hl [2, 3, 4, 0, 1] rfl) kx_4
        · have hf := (if_pos c_27).symm.trans hf
          refine lv_iconst (v := 0) hx hb dX9_vinegar_62 (by decide) ?_
          refine lv_goto (tgt := 72) hx hb dX9_vinegar_63 (by decide) ?_
          refine lv_iadd hx hb dX9_vinegar_72 ?_
          refine lv_istore_n (lv' := [(3, .int (x_2 + 0)), (0, .ref (ad 0)), (1, .ref (ad 7)), (2, .int a2), (4, .int x_1), (6, .int x_25), (5, .int x_26)]) hx hb dX9_vinegar_73 rfl hl (by decide) rfl (fun ls hl => ?_)
          refine lv_iinc (v := x_1 + 1) (lv' := [(4, .int (x_1 + 1)), (3, .int (x_2 + 0)), (0, .ref (ad 0)), (1, .ref (ad 7)), (2, .int a2), (6, .int x_25), (5, .int x_26)]) hx hb dX9_vinegar_74 hl (k := 4) rfl rfl (by decide) rfl (fun ls hl => ?_)
          refine lv_goto (tgt := 5) hx hb dX9_vinegar_77 (by decide) ?_
          cases hf
          exact ih_3 _ _ _ _ _ hc_7 (lv_sub hl [2, 3, 4, 0, 1] rfl) kx_4
  obtain ⟨x_29, x_30, ho, hf⟩ := sm_b2_e hf
  refine L_8 FU 0 0 x_29 x_30 ls ho (lv_sub hl [2, 3, 4, 0, 1] rfl) ?_
  intro ls hl
  refine lv_iload_n hx hb dX9_vinegar_80 rfl (lv_at hl 4 rfl) ?_
  have hf := Option.some.inj hf
  rw [← hQ]
  exact W.iret (v := x_30) hx hb hr (fun t ht hW => ⟨_, rfl, hf, ht⟩) (fun _ h => by cases h) dX9_vinegar_81
abbrev rX9_vinegar_14 : Room := { frames := 0, cells := 0, slots := 0, locals := 0 }
set_option maxHeartbeats 4000000 in
theorem wX9_vinegar_14 (l : Launch) (g : GG) (ad : Nat → Nat) (S : MS) (a2 : Int32) (rf : Int32) (hf : fX9_vinegar_14 S a2 = some rf) : Met l yX9_vinegar (ws_ yX9_vinegar cX9_vinegar 7 (some .int)) rX9_vinegar_14 (va_Pc [.ref (ad 0), .ref (ad 31), .int a2] (fun U => PP g (WM g ad S) U.heap ∧ EV g U)) (vp_Si (fun y => y = rf)) 0 0 (fun _ => False) := by
  refine sm_st (by decide) ?_
  intro p e s m args below meth c hx hb hr hlocks hml hown hnm hts hv
  obtain ⟨hargs, hP, hE⟩ := hv
  obtain ⟨hK, hN⟩ := id hE
  have hown : s.vm.findClass RX9 = some m.cls := hown
  refine sm_en _ (Nat.le_of_ble_eq_true rfl) hargs (fun ls hl => ?_)
  have hl : lv_has ls 7 [(0, .ref (ad 0)), (1, .ref (ad 31)), (2, .int a2)] := hl
  generalize hQ : MQ below _ args s _ _ _ = Q
  unfold fX9_vinegar_14 at hf
  refine lv_iconst (v := 0) hx hb dX9_vinegar_0 (by decide) ?_
  refine lv_istore_n (lv' := [(3, .int 0), (0, .ref (ad 0)), (1, .ref (ad 31)), (2, .int a2)]) hx hb dX9_vinegar_1 rfl hl (by decide) rfl (fun ls hl => ?_)
  refine lv_iconst (v := 0) hx hb dX9_vinegar_2 (by decide) ?_
  refine lv_istore (lv' := [(4, .int 0), (3, .int 0), (0, .ref (ad 0)), (1, .ref (ad 31)), (2, .int a2)]) hx hb dX9_vinegar_3 hl (by decide) rfl (fun ls hl => ?_)
  have L_8 : ∀ (n : Nat) (x_1 : Int32) (x_2 : Int32) (o_9 : Int32) (o_10 : Int32) (ls : Array Slot), sm_lp (fun q => fX9_vinegar_14_5 S a2 q.1 q.2) n (x_1, x_2) = some (o_9, o_10) → lv_has ls 7 [(0, .ref (ad 0)), (1, .ref (ad 31)), (2, .int a2), (4, .int x_1), (3, .int x_2)] → (∀ (ls : Array Slot), lv_has ls 7 [(0, .ref (ad 0)), (1, .ref (ad 31)), (2, .int a2), (4, .int o_9), (3, .int o_10)] → W p l e rX9_vinegar_14 s m args below meth c s.heap [] 0 0 Q (F0 m 80 ls [])) → W p l e rX9_vinegar_14 s m args below meth c s.heap [] 0 0 Q (F0 m 5 ls []) := by
    intro n
    induction n with
    | zero =>
      intro _ _ _ _ _ hf
      cases hf
    | succ n ih_3 =>
      intro x_1 x_2 o_9 o_10 ls hf hl kx_4
      obtain ⟨q, hf, hc_7⟩ := sm_bnd hf
      have hf : fX9_vinegar_14_5 S a2 x_1 x_2 = some q := hf
      unfold fX9_vinegar_14_5 at hf
      refine lv_iload hx hb dX9_vinegar_5 (lv_at hl 3 rfl) ?_
      refine lv_aload_n hx hb dX9_vinegar_7 rfl (lv_at hl 0 rfl) ?_
      refine va_get (D := (g.1, g.2.1)) (ci := 9) (v := .int (S.1 1)) (C := RX9) (T := TX9) (N := 39) hx hb hts in_X9 hown hK hP 0 rfl rfl 1 (by decide) (hts _ q857) (fun _ h9 => h9) rfl dX9_vinegar_8 ?_
      refine lv_icmp_ge (tgt := 80) hx hb dX9_vinegar_11 (by decide) (fun c_11 => ?_) (fun c_11 => ?_)
      · have hf := (if_pos c_11).symm.trans hf
        cases hf
        have hc_7 : some (x_1, x_2) = some (o_9, o_10) := hc_7
        cases hc_7
        exact kx_4 _ (lv_sub hl [0, 1, 2, 3, 4] rfl)
      · have hf := (if_neg c_11).symm.trans hf
        refine lv_iconst (v := 0) hx hb dX9_vinegar_14 (by decide) ?_
        refine lv_istore (lv' := [(5, .int 0), (0, .ref (ad 0)), (1, .ref (ad 31)), (2, .int a2), (4, .int x_1), (3, .int x_2)]) hx hb dX9_vinegar_15 hl (by decide) rfl (fun ls hl => ?_)
        refine lv_iconst (v := 0) hx hb dX9_vinegar_17 (by decide) ?_
        refine lv_istore (lv' := [(6, .int 0), (5, .int 0), (0, .ref (ad 0)), (1, .ref (ad 31)), (2, .int a2), (4, .int x_1), (3, .int x_2)]) hx hb dX9_vinegar_18 hl (by decide) rfl (fun ls hl => ?_)
        have L_19 : ∀ (n : Nat) (x_12 : Int32) (x_13 : Int32) (o_20 : Int32) (o_21 : Int32) (ls : Array Slot), sm_lp (fun q => fX9_vinegar_14_20 S a2 x_1 q.1 q.2) n (x_12, x_13) = some (o_20, o_21) → lv_has ls 7 [(0, .ref (ad 0)), (1, .ref (ad 31)), (2, .int a2), (4, .int x_1), (3, .int x_2), (6, .int x_12), (5, .int x_13)] → (∀ (ls : Array Slot), lv_has ls 7 [(0, .ref (ad 0)), (1, .ref (ad 31)), (2, .int a2), (4, .int x_1), (3, .int x_2), (6, .int o_20), (5, .int o_21)] → W p l e rX9_vinegar_14 s m args below meth c s.heap [] 0 0 Q (F0 m 56 ls [])) → W p l e rX9_vinegar_14 s m args below meth c s.heap [] 0 0 Q (F0 m 20 ls []) := by
          intro n
          induction n with
          | zero =>
            intro _ _ _ _ _ hf
            cases hf
          | succ n ih_14 =>
            intro x_12 x_13 o_20 o_21 ls hf hl kx_15
            obtain ⟨q, hf, hc_18⟩ := sm_bnd hf
            have hf : fX9_vinegar_14_20 S a2 x_1 x_12 x_13 = some q := hf
            unfold fX9_vinegar_14_20 at hf
            refine lv_iload hx hb dX9_vinegar_20 (lv_at hl 5 rfl) ?_
            refine lv_aload_n hx hb dX9_vinegar_22 rfl (lv_at hl 0 rfl) ?_
            refine va_get (D := (g.1, g.2.1)) (ci := 9) (v := .int (S.1 3)) (C := RX9) (T := TX9) (N := 39) hx hb hts in_X9 hown hK hP 0 rfl rfl 3 (by decide) (hts _ q859) (fun _ h9 => h9) rfl dX9_vinegar_23 ?_
            refine lv_icmp_ge (tgt := 56) hx hb dX9_vinegar_26 (by decide) (fun c_22 => ?_) (fun c_22 => ?_)
            · have hf := (if_pos c_22).symm.trans hf
              cases hf
              have hc_18 : some (x_12, x_13) = some (o_20, o_21) := hc_18
              cases hc_18
              exact kx_15 _ (lv_sub hl [0, 1, 2, 3, 4, 5, 6] rfl)
            · have hf := (if_neg c_22).symm.trans hf
              refine lv_iload hx hb dX9_vinegar_29 (lv_at hl 6 rfl) ?_
              refine lv_aload_n hx hb dX9_vinegar_31 rfl (lv_at hl 1 rfl) ?_
              refine lv_iload_n hx hb dX9_vinegar_32 rfl (lv_at hl 2 rfl) ?_
              refine lv_iload hx hb dX9_vinegar_33 (lv_at hl 5 rfl) ?_
              refine lv_iadd hx hb dX9_vinegar_35 ?_
              obtain ⟨hg, hf⟩ := sm_gd_e hf
              refine va_iald hx hb hK hP 14 0 rfl rfl (sm_in hg) dX9_vinegar_36 ?_
              refine lv_iload hx hb dX9_vinegar_37 (lv_at hl 3 rfl) ?_
              refine lv_icmp_ne (tgt := 46) hx hb dX9_vinegar_39 (by decide) (fun c_23 => ?_) (fun c_23 => ?_)
              · have hf := (if_neg c_23).symm.trans hf
                refine lv_iconst (v := 0) hx hb dX9_vinegar_46 (by decide) ?_
                refine lv_iadd hx hb dX9_vinegar_47 ?_
                refine lv_istore (lv' := [(5, .int (x_13 + 0)), (0, .ref (ad 0)), (1, .ref (ad 31)), (2, .int a2), (4, .int x_1), (3, .int x_2), (6, .int x_12)]) hx hb dX9_vinegar_48 hl (by decide) rfl (fun ls hl => ?_)
                refine lv_iinc (v := x_12 + 1) (lv' := [(6, .int (x_12 + 1)), (5, .int (x_13 + 0)), (0, .ref (ad 0)), (1, .ref (ad 31)), (2, .int a2), (4, .int x_1), (3, .int x_2)]) hx hb dX9_vinegar_50 hl (k := 6) rfl rfl (by decide) rfl (fun ls hl => ?_)
                refine lv_goto (tgt := 20) hx hb dX9_vinegar_53 (by decide) ?_
                cases hf
                exact ih_14 _ _ _ _ _ hc_18 (lv_sub hl [2, 3, 4, 5, 6, 0, 1] rfl) kx_15
              · have hf := (if_pos c_23).symm.trans hf
                refine lv_iconst (v := 1) hx hb dX9_vinegar_42 (by decide) ?_
                refine lv_goto (tgt := 47) hx hb dX9_vinegar_43 (by decide) ?_
                refine lv_iadd hx hb dX9_vinegar_47 ?_
                refine lv_istore (lv' := [(5, .int (x_13 + 1)), (0, .ref (ad 0)), (1, .ref (ad 31)), (2, .int a2), (4, .int x_1), (3, .int x_2), (6, .int x_12)]) hx hb dX9_vinegar_48 hl (by decide) rfl (fun ls hl => ?_)
                refine lv_iinc (v := x_12 + 1) (lv' := [(6, .int (x_12 + 1)), (5, .int (x_13 + 1)), (0, .ref (ad 0)), (1, .ref (ad 31)), (2, .int a2), (4, .int x_1), (3, .int x_2)]) hx hb dX9_vinegar_50 hl (k := 6) rfl rfl (by decide) rfl (fun ls hl => ?_)
                refine lv_goto (tgt := 20) hx hb dX9_vinegar_53 (by decide) ?_
                cases hf
                exact ih_14 _ _ _ _ _ hc_18 (lv_sub hl [2, 3, 4, 5, 6, 0, 1] rfl) kx_15
        obtain ⟨x_25, x_26, ho, hf⟩ := sm_b2_e hf
        refine L_19 FU 0 0 x_25 x_26 ls ho (lv_sub hl [2, 3, 4, 5, 6, 0, 1] rfl) ?_
        intro ls hl
        refine lv_iload_n hx hb dX9_vinegar_56 rfl (lv_at hl 4 rfl) ?_
        refine lv_iload hx hb dX9_vinegar_57 (lv_at hl 6 rfl) ?_
        refine lv_if_ne (tgt := 66) hx hb dX9_vinegar_59 (by decide) (fun c_27 => ?_) (fun c_27 => ?_)
        · have hf := (if_neg c_27).symm.trans hf
          refine lv_iconst (v := 1) hx hb dX9_vinegar_66 (by decide) ?_
          refine lv_iload hx hb dX9_vinegar_67 (lv_at hl 6 rfl) ?_
          refine lv_iconst (v := 2) hx hb dX9_vinegar_69 (by decide) ?_
          refine lv_idiv hx hb dX9_vinegar_70 (by decide) ?_
          refine lv_iadd hx hb dX9_vinegar_71 ?_
          refine lv_iadd hx hb dX9_vinegar_72 ?_
          refine lv_istore_n (lv' := [(3, .int (x_2 + (1 + (x_26 / 2)))), (0, .ref (ad 0)), (1, .ref (ad 31)), (2, .int a2), (4, .int x_1), (6, .int x_25), (5, .int x_26)]) hx hb dX9_vinegar_73 rfl hl (by decide) rfl (fun ls hl => ?_)
          refine lv_iinc (v := x_1 + 1) (lv' := [(4, .int (x_1 + 1)), (3, .int (x_2 + (1 + (x_26 / 2)))), (0, .ref (ad 0)), (1, .ref (ad 31)), (2, .int a2), (6, .int x_25), (5, .int x_26)]) hx hb dX9_vinegar_74 hl (k := 4) rfl rfl (by decide) rfl (fun ls hl => ?_)
          refine lv_goto (tgt := 5) hx hb dX9_vinegar_77 (by decide) ?_
          cases hf
          exact ih_3 _ _ _ _ _ hc_7 (lv_sub hl [2, 3, 4, 0, 1] rfl) kx_4
        · have hf := (if_pos c_27).symm.trans hf
          refine lv_iconst (v := 0) hx hb dX9_vinegar_62 (by decide) ?_
          refine lv_goto (tgt := 72) hx hb dX9_vinegar_63 (by decide) ?_
          refine lv_iadd hx hb dX9_vinegar_72 ?_
          refine lv_istore_n (lv' := [(3, .int (x_2 + 0)), (0, .ref (ad 0)), (1, .ref (ad 31)), (2, .int a2), (4, .int x_1), (6, .int x_25), (5, .int x_26)]) hx hb dX9_vinegar_73 rfl hl (by decide) rfl (fun ls hl => ?_)
          refine lv_iinc (v := x_1 + 1) (lv' := [(4, .int (x_1 + 1)), (3, .int (x_2 + 0)), (0, .ref (ad 0)), (1, .ref (ad 31)), (2, .int a2), (6, .int x_25), (5, .int x_26)]) hx hb dX9_vinegar_74 hl (k := 4) rfl rfl (by decide) rfl (fun ls hl => ?_)
          refine lv_goto (tgt := 5) hx hb dX9_vinegar_77 (by decide) ?_
          cases hf
          exact ih_3 _ _ _ _ _ hc_7 (lv_sub hl [2, 3, 4, 0, 1] rfl) kx_4
  obtain ⟨x_29, x_30, ho, hf⟩ := sm_b2_e hf
  refine L_8 FU 0 0 x_29 x_30 ls ho (lv_sub hl [2, 3, 4, 0, 1] rfl) ?_
  intro ls hl
  refine lv_iload_n hx hb dX9_vinegar_80 rfl (lv_at hl 4 rfl) ?_
  have hf := Option.some.inj hf
  rw [← hQ]
  exact W.iret (v := x_30) hx hb hr (fun t ht hW => ⟨_, rfl, hf, ht⟩) (fun _ h => by cases h) dX9_vinegar_81
abbrev rX9_day : Room := { frames := 2, cells := 0, slots := 0, locals := 43 }
set_option maxHeartbeats 4000000 in
theorem wX9_day (l : Launch) (g : GG) (ad : Nat → Nat) (S : MS) (Sf : MS) (rf : Int32) (hf : fX9_day S = some (Sf, rf)) : Met l yX9_day (ws_ yX9_day cX9_day 2 (some .int)) rX9_day (va_Pc [.ref (ad 0)] (fun U => PP g (WM g ad S) U.heap ∧ EV g U ∧ va_D (AM ad) (WM g ad S))) (va_Qi (fun y (_ : Unit) => y = rf) (fun _ t => PP g (WM g ad Sf) t.heap ∧ va_D (AM ad) (WM g ad Sf)) (AM ad)) 0 0 (AM ad) := by
  refine sm_st (by decide) ?_
  intro p e s m args below meth c hx hb hr hlocks hml hown hnm hts hv
  obtain ⟨hargs, hP, hE, hD⟩ := hv
  obtain ⟨hK, hN⟩ := id hE
  have hS : va_S (AM ad) s.heap s.heap [] := va_S.rf
  have hown : s.vm.findClass RX9 = some m.cls := hown
  refine sm_en _ (Nat.le_of_ble_eq_true rfl) hargs (fun ls hl => ?_)
  have hl : lv_has ls 2 [(0, .ref (ad 0))] := hl
  generalize hQ : MQ below _ args s _ _ _ = Q
  unfold fX9_day at hf
  refine lv_aload_n hx hb dX9_day_0 rfl (lv_at hl 0 rfl) ?_
  refine va_get (D := (g.1, g.2.1)) (ci := 9) (v := .ref (ad 7)) (C := RX9) (T := TX9) (N := 39) hx hb hts in_X9 hown hK hP 0 rfl rfl 7 (by decide) (hts _ q863) (fun _ h9 => h9) rfl dX9_day_1 ?_
  refine lv_iconst (v := 0) hx hb dX9_day_4 (by decide) ?_
  refine va_iald hx hb hK hP 3 0 rfl rfl (sm_in rfl) dX9_day_5 ?_
  refine lv_sipush (v := 200) hx hb dX9_day_6 (by decide) ?_
  refine lv_icmp_ne (tgt := 15) hx hb dX9_day_9 (by decide) (fun c_1 => ?_) (fun c_1 => ?_)
  · have hf := (if_neg c_1).symm.trans hf
    refine lv_aload_n hx hb dX9_day_15 rfl (lv_at hl 0 rfl) ?_
    obtain ⟨S_2, h_3, hf⟩ := sm_b1_e hf
    refine va_callv (va_runV (As := []) (rest := []) ⟨hx, hb, hml, hown, hts⟩ (wX9_remembers l g ad S  S_2 h_3) (cwV 0 hts (lw_V q1069 q1071 qs37 q70 q1072) rfl rfl rfl (by decide +kernel) ⟨Nat.le_of_ble_eq_true rfl, Nat.le_of_ble_eq_true rfl⟩) (sm_pe hE hP hD (va_recv hK hP (ci := 9) (q0 := 0) rfl rfl)) rfl rfl hl.1 rfl (lv_room (Nat.le_of_ble_eq_true rfl)) dX9_day_16 ⟨Nat.le_of_ble_eq_true rfl, Nat.le_of_ble_eq_true rfl⟩) hS (fun _ _ h => h) (fun _ h => h) (fun u t H locs ht hvm er_4 hB hz hk hS => ?_)
    obtain ⟨hP, hD⟩ := hB
    rw [ht] at hP
    refine lv_aload_n hx hb dX9_day_19 rfl (lv_at hl 0 rfl) ?_
    refine va_get (D := (g.1, g.2.1)) (ci := 9) (v := .ref (ad 7)) (C := RX9) (T := TX9) (N := 39) hx hb hts in_X9 hown hK hP 0 rfl rfl 7 (by decide) (hts _ q863) (fun _ h9 => h9) rfl dX9_day_20 ?_
    refine lv_iconst (v := 1) hx hb dX9_day_23 (by decide) ?_
    refine lv_dup2_11 hx hb dX9_day_24 rfl rfl ?_
    refine va_iald hx hb hK hP 3 0 rfl rfl (sm_in rfl) dX9_day_25 ?_
    refine lv_aload_n hx hb dX9_day_26 rfl (lv_at hl 0 rfl) ?_
    refine lv_aload_n hx hb dX9_day_27 rfl (lv_at hl 0 rfl) ?_
    refine va_get (D := (g.1, g.2.1)) (ci := 9) (v := .ref (ad 7)) (C := RX9) (T := TX9) (N := 39) hx hb hts in_X9 hown hK hP 0 rfl rfl 7 (by decide) (hts _ q863) (fun _ h9 => h9) rfl dX9_day_28 ?_
    refine lv_iconst (v := 2) hx hb dX9_day_31 (by decide) ?_
    obtain ⟨r_6, h_7, hf⟩ := sm_b1_e hf
    refine vp_callSi (W.runV (As := [.ref (ad 7), .int 2]) (rest := [.int (S_2.2.1 7 1), .int 1, .ref (ad 7)]) ⟨hx, hb, hml, hown, hts⟩ (wX9_vinegar_3 l g ad S_2 2 r_6 h_7) (cwV 2 hts (lw_V q1077 q1079 qs38 q70 q1080) rfl rfl rfl (by decide +kernel) ⟨Nat.le_of_ble_eq_true rfl, Nat.le_of_ble_eq_true rfl⟩) (sm_pv hE hP (va_recv hK hP (ci := 9) (q0 := 0) rfl rfl)) rfl rfl hl.1 rfl (lv_room (Nat.le_of_ble_eq_true rfl)) dX9_day_32 ⟨Nat.le_of_ble_eq_true rfl, Nat.le_of_ble_eq_true rfl⟩) (fun r_9 er_8 => ?_)
    have er_8 := er_8.symm
    subst er_8
    refine lv_iadd hx hb dX9_day_35 ?_
    refine va_iast (i := 1) (x := (S_2.2.1 7 1) + r_6) hx hb hK hP hD hS 3 0 rfl rfl (sm_in rfl) dX9_day_36 (fun H locs hP hD hS => ?_)
    obtain ⟨S_10, eS_10, hf⟩ := sm_lt_e hf
    have hP : PP g (WM g ad S_10) H := by rw [eS_10]; exact pmr7 hP
    have hD : va_D (AM ad) (WM g ad S_10) := by rw [eS_10]; exact dmr7 hD
    refine lv_aload_n hx hb dX9_day_37 rfl (lv_at hl 0 rfl) ?_
    refine va_get (D := (g.1, g.2.1)) (ci := 9) (v := .ref (ad 7)) (C := RX9) (T := TX9) (N := 39) hx hb hts in_X9 hown hK hP 0 rfl rfl 7 (by decide) (hts _ q863) (fun _ h9 => h9) rfl dX9_day_38 ?_
    refine lv_iconst (v := 0) hx hb dX9_day_41 (by decide) ?_
    refine lv_dup2_11 hx hb dX9_day_42 rfl rfl ?_
    refine va_iald hx hb hK hP 3 0 rfl rfl (sm_in rfl) dX9_day_43 ?_
    refine lv_iconst (v := 1) hx hb dX9_day_44 (by decide) ?_
    refine lv_iadd hx hb dX9_day_45 ?_
    refine va_iast (i := 0) (x := (S_10.2.1 7 0) + 1) hx hb hK hP hD hS 3 0 rfl rfl (sm_in rfl) dX9_day_46 (fun H locs hP hD hS => ?_)
    obtain ⟨S_11, eS_11, hf⟩ := sm_lt_e hf
    have hP : PP g (WM g ad S_11) H := by rw [eS_11]; exact pmr7 hP
    have hD : va_D (AM ad) (WM g ad S_11) := by rw [eS_11]; exact dmr7 hD
    refine lv_iconst (v := 0) hx hb dX9_day_47 (by decide) ?_
    refine lv_istore_n (lv' := [(1, .int 0), (0, .ref (ad 0))]) hx hb dX9_day_48 rfl hl (by decide) rfl (fun ls hl => ?_)
    have L_19 : ∀ (n : Nat) (x_12 : Int32) (S_13 : MS) (o_20 : Int32) (o_21 : MS) (H : Heap) (locs : List Loc) (ls : Array Slot), sm_lp (fun q => fX9_day_49 q.1 q.2) n (x_12, S_13) = some (o_20, o_21) → PP g (WM g ad S_13) H → va_D (AM ad) (WM g ad S_13) → va_S (AM ad) s.heap H locs → lv_has ls 2 [(0, .ref (ad 0)), (1, .int x_12)] → (∀ (H : Heap) (locs : List Loc) (ls : Array Slot), PP g (WM g ad o_21) H → va_D (AM ad) (WM g ad o_21) → va_S (AM ad) s.heap H locs → lv_has ls 2 [(0, .ref (ad 0)), (1, .int o_20)] → W p l e rX9_day s m args below meth c H locs 0 0 Q (F0 m 93 ls [])) → W p l e rX9_day s m args below meth c H locs 0 0 Q (F0 m 49 ls []) := by
      intro n
      induction n with
      | zero =>
        intro _ _ _ _ _ _ _ hf
        cases hf
      | succ n ih_14 =>
        intro x_12 S_13 o_20 o_21 H locs ls hf hP hD hS hl kx_15
        obtain ⟨q, hf, hc_18⟩ := sm_bnd hf
        have hf : fX9_day_49 x_12 S_13 = some q := hf
        unfold fX9_day_49 at hf
        refine lv_iload_n hx hb dX9_day_49 rfl (lv_at hl 1 rfl) ?_
        refine lv_aload_n hx hb dX9_day_50 rfl (lv_at hl 0 rfl) ?_
        refine va_get (D := (g.1, g.2.1)) (ci := 9) (v := .int (S_13.1 3)) (C := RX9) (T := TX9) (N := 39) hx hb hts in_X9 hown hK hP 0 rfl rfl 3 (by decide) (hts _ q859) (fun _ h9 => h9) rfl dX9_day_51 ?_
        refine lv_icmp_ge (tgt := 93) hx hb dX9_day_54 (by decide) (fun c_22 => ?_) (fun c_22 => ?_)
        · have hf := (if_pos c_22).symm.trans hf
          cases hf
          have hc_18 : some (x_12, S_13) = some (o_20, o_21) := hc_18
          cases hc_18
          exact kx_15 _ _ _ hP hD hS (lv_sub hl [0, 1] rfl)
        · have hf := (if_neg c_22).symm.trans hf
          refine lv_aload_n hx hb dX9_day_57 rfl (lv_at hl 0 rfl) ?_
          refine va_get (D := (g.1, g.2.1)) (ci := 9) (v := .ref (ad 7)) (C := RX9) (T := TX9) (N := 39) hx hb hts in_X9 hown hK hP 0 rfl rfl 7 (by decide) (hts _ q863) (fun _ h9 => h9) rfl dX9_day_58 ?_
          refine lv_bipush (v := 8) hx hb dX9_day_61 (by decide) ?_
          refine lv_iload_n hx hb dX9_day_63 rfl (lv_at hl 1 rfl) ?_
          refine lv_iadd hx hb dX9_day_64 ?_
          refine lv_dup2_11 hx hb dX9_day_65 rfl rfl ?_
          obtain ⟨hg, hf⟩ := sm_gd_e hf
          refine va_iald hx hb hK hP 3 0 rfl rfl (sm_in hg) dX9_day_66 ?_
          refine lv_aload_n hx hb dX9_day_67 rfl (lv_at hl 0 rfl) ?_
          refine va_get (D := (g.1, g.2.1)) (ci := 9) (v := .ref (ad 7)) (C := RX9) (T := TX9) (N := 39) hx hb hts in_X9 hown hK hP 0 rfl rfl 7 (by decide) (hts _ q863) (fun _ h9 => h9) rfl dX9_day_68 ?_
          refine lv_iconst (v := 2) hx hb dX9_day_71 (by decide) ?_
          refine lv_iload_n hx hb dX9_day_72 rfl (lv_at hl 1 rfl) ?_
          refine lv_iadd hx hb dX9_day_73 ?_
          obtain ⟨hg, hf⟩ := sm_gd_e hf
          refine va_iald hx hb hK hP 3 0 rfl rfl (sm_in hg) dX9_day_74 ?_
          refine lv_bipush (v := (-9)) hx hb dX9_day_75 (by decide) ?_
          obtain ⟨x_23, hf, hf0⟩ := sm_b1_e hf
          suffices hj_24 : ∀ (ls : Array Slot), lv_has ls 2 [(0, .ref (ad 0)), (1, .int x_12)] → W p l e rX9_day s m args below meth c H locs 0 0 Q (F0 m 85 ls [.int x_23, .int (S_13.2.1 7 (8 + x_12).toNatClampNeg), .int (8 + x_12), .ref (ad 7)]) from by
            refine lv_icmp_ne (tgt := 84) hx hb dX9_day_77 (by decide) (fun c_25 => ?_) (fun c_25 => ?_)
            · have hf := (if_neg c_25).symm.trans hf
              refine lv_iconst (v := 1) hx hb dX9_day_84 (by decide) ?_
              cases hf
              exact hj_24 _ (lv_sub hl [0, 1] rfl)
            · have hf := (if_pos c_25).symm.trans hf
              refine lv_iconst (v := 0) hx hb dX9_day_80 (by decide) ?_
              refine lv_goto (tgt := 85) hx hb dX9_day_81 (by decide) ?_
              cases hf
              exact hj_24 _ (lv_sub hl [0, 1] rfl)
          intro ls hl
          have hf := hf0
          refine lv_iadd hx hb dX9_day_85 ?_
          obtain ⟨hg, hf⟩ := sm_gd_e hf
          refine va_iast (i := 8 + x_12) (x := (S_13.2.1 7 (8 + x_12).toNatClampNeg) + x_23) hx hb hK hP hD hS 3 0 rfl rfl (sm_in hg) dX9_day_86 (fun H locs hP hD hS => ?_)
          obtain ⟨S_26, eS_26, hf⟩ := sm_lt_e hf
          have hP : PP g (WM g ad S_26) H := by rw [eS_26]; exact pmr7 hP
          have hD : va_D (AM ad) (WM g ad S_26) := by rw [eS_26]; exact dmr7 hD
          refine lv_iinc (v := x_12 + 1) (lv' := [(1, .int (x_12 + 1)), (0, .ref (ad 0))]) hx hb dX9_day_87 hl (k := 1) rfl rfl (by decide) rfl (fun ls hl => ?_)
          refine lv_goto (tgt := 49) hx hb dX9_day_90 (by decide) ?_
          cases hf
          exact ih_14 _ _ _ _ _ _ _ hc_18 hP hD hS (lv_sub hl [1, 0] rfl) kx_15
    obtain ⟨x_28, S_29, ho, hf⟩ := sm_b2_e hf
    refine L_19 FU 0 S_11 x_28 S_29 H locs ls ho hP hD hS (lv_sub hl [1, 0] rfl) ?_
    intro H locs ls hP hD hS hl
    refine lv_aload_n hx hb dX9_day_93 rfl (lv_at hl 0 rfl) ?_
    obtain ⟨r_30, h_31, hf⟩ := sm_b1_e hf
    refine vp_callSi (W.runV (As := []) (rest := []) ⟨hx, hb, hml, hown, hts⟩ (wX9_leavers l g ad S_29  r_30 h_31) (cwV 0 hts (lw_V q1045 q1047 qs32 q70 q1048) rfl rfl rfl (by decide +kernel) ⟨Nat.le_of_ble_eq_true rfl, Nat.le_of_ble_eq_true rfl⟩) (sm_pv hE hP (va_recv hK hP (ci := 9) (q0 := 0) rfl rfl)) rfl rfl hl.1 rfl (lv_room (Nat.le_of_ble_eq_true rfl)) dX9_day_94 ⟨Nat.le_of_ble_eq_true rfl, Nat.le_of_ble_eq_true rfl⟩) (fun r_33 er_32 => ?_)
    have er_32 := er_32.symm
    subst er_32
    have hf := Option.some.inj hf
    rw [← hQ]
    have hf := Prod.mk.inj hf
    exact W.iret (v := r_30) hx hb hr (fun t ht hW => ⟨⟨_, (), rfl, hf.2, by rw [ht, ← hf.1]; exact hP, by rw [← hf.1]; exact hD⟩, hS.F ht⟩) hS.2.2 dX9_day_97
  · have hf := (if_pos c_1).symm.trans hf
    refine lv_bipush (v := (-2)) hx hb dX9_day_12 (by decide) ?_
    have hf := Option.some.inj hf
    rw [← hQ]
    have hf := Prod.mk.inj hf
    exact W.iret (v := (-2)) hx hb hr (fun t ht hW => ⟨⟨_, (), rfl, hf.2, by rw [ht, ← hf.1]; exact hP, by rw [← hf.1]; exact hD⟩, hS.F ht⟩) hS.2.2 dX9_day_14
abbrev rX9_goes : Room := { frames := 1, cells := 0, slots := 0, locals := 26 }
set_option maxHeartbeats 4000000 in
theorem wX9_goes (l : Launch) (g : GG) (ad : Nat → Nat) (S : MS) (Sf : MS) (rf : Int32) (hf : fX9_goes S = some (Sf, rf)) : Met l yX9_goes (ws_ yX9_goes cX9_goes 5 (some .int)) rX9_goes (va_Pc [.ref (ad 0)] (fun U => PP g (WM g ad S) U.heap ∧ EV g U ∧ va_D (AM ad) (WM g ad S))) (va_Qi (fun y (_ : Unit) => y = rf) (fun _ t => PP g (WM g ad Sf) t.heap ∧ va_D (AM ad) (WM g ad Sf)) (AM ad)) 0 0 (AM ad) := by
  refine sm_st (by decide) ?_
  intro p e s m args below meth c hx hb hr hlocks hml hown hnm hts hv
  obtain ⟨hargs, hP, hE, hD⟩ := hv
  obtain ⟨hK, hN⟩ := id hE
  have hS : va_S (AM ad) s.heap s.heap [] := va_S.rf
  have hown : s.vm.findClass RX9 = some m.cls := hown
  refine sm_en _ (Nat.le_of_ble_eq_true rfl) hargs (fun ls hl => ?_)
  have hl : lv_has ls 5 [(0, .ref (ad 0))] := hl
  generalize hQ : MQ below _ args s _ _ _ = Q
  unfold fX9_goes at hf
  refine lv_iconst (v := 0) hx hb dX9_goes_0 (by decide) ?_
  refine lv_istore_n (lv' := [(1, .int 0), (0, .ref (ad 0))]) hx hb dX9_goes_1 rfl hl (by decide) rfl (fun ls hl => ?_)
  have L_8 : ∀ (n : Nat) (x_1 : Int32) (S_2 : MS) (o_9 : Int32) (o_10 : MS) (H : Heap) (locs : List Loc) (ls : Array Slot), sm_lp (fun q => fX9_goes_2 q.1 q.2) n (x_1, S_2) = some (o_9, o_10) → PP g (WM g ad S_2) H → va_D (AM ad) (WM g ad S_2) → va_S (AM ad) s.heap H locs → lv_has ls 5 [(0, .ref (ad 0)), (1, .int x_1)] → (∀ (H : Heap) (locs : List Loc) (ls : Array Slot), PP g (WM g ad o_10) H → va_D (AM ad) (WM g ad o_10) → va_S (AM ad) s.heap H locs → lv_has ls 5 [(0, .ref (ad 0)), (1, .int o_9)] → W p l e rX9_goes s m args below meth c H locs 0 0 Q (F0 m 37 ls [])) → W p l e rX9_goes s m args below meth c H locs 0 0 Q (F0 m 2 ls []) := by
    intro n
    induction n with
    | zero =>
      intro _ _ _ _ _ _ _ hf
      cases hf
    | succ n ih_3 =>
      intro x_1 S_2 o_9 o_10 H locs ls hf hP hD hS hl kx_4
      obtain ⟨q, hf, hc_7⟩ := sm_bnd hf
      have hf : fX9_goes_2 x_1 S_2 = some q := hf
      unfold fX9_goes_2 at hf
      refine lv_iload_n hx hb dX9_goes_2 rfl (lv_at hl 1 rfl) ?_
      refine lv_bipush (v := 6) hx hb dX9_goes_3 (by decide) ?_
      refine lv_icmp_ge (tgt := 37) hx hb dX9_goes_5 (by decide) (fun c_11 => ?_) (fun c_11 => ?_)
      · have hf := (if_pos c_11).symm.trans hf
        cases hf
        have hc_7 : some (x_1, S_2) = some (o_9, o_10) := hc_7
        cases hc_7
        exact kx_4 _ _ _ hP hD hS (lv_sub hl [0, 1] rfl)
      · have hf := (if_neg c_11).symm.trans hf
        refine lv_aload_n hx hb dX9_goes_8 rfl (lv_at hl 0 rfl) ?_
        refine va_get (D := (g.1, g.2.1)) (ci := 9) (v := .ref (ad 31)) (C := RX9) (T := TX9) (N := 39) hx hb hts in_X9 hown hK hP 0 rfl rfl 31 (by decide) (hts _ q887) (fun _ h9 => h9) rfl dX9_goes_9 ?_
        refine lv_iload_n hx hb dX9_goes_12 rfl (lv_at hl 1 rfl) ?_
        refine lv_bipush (v := (-9)) hx hb dX9_goes_13 (by decide) ?_
        obtain ⟨hg, hf⟩ := sm_gd_e hf
        refine va_iast (i := x_1) (x := (-9)) hx hb hK hP hD hS 14 0 rfl rfl (sm_in hg) dX9_goes_15 (fun H locs hP hD hS => ?_)
        obtain ⟨S_12, eS_12, hf⟩ := sm_lt_e hf
        have hP : PP g (WM g ad S_12) H := by rw [eS_12]; exact pmr31 hP
        have hD : va_D (AM ad) (WM g ad S_12) := by rw [eS_12]; exact dmr31 hD
        refine lv_aload_n hx hb dX9_goes_16 rfl (lv_at hl 0 rfl) ?_
        refine va_get (D := (g.1, g.2.1)) (ci := 9) (v := .ref (ad 32)) (C := RX9) (T := TX9) (N := 39) hx hb hts in_X9 hown hK hP 0 rfl rfl 32 (by decide) (hts _ q888) (fun _ h9 => h9) rfl dX9_goes_17 ?_
        refine lv_iload_n hx hb dX9_goes_20 rfl (lv_at hl 1 rfl) ?_
        refine lv_iconst (v := 0) hx hb dX9_goes_21 (by decide) ?_
        obtain ⟨hg, hf⟩ := sm_gd_e hf
        refine va_iast (i := x_1) (x := 0) hx hb hK hP hD hS 15 0 rfl rfl (sm_in hg) dX9_goes_22 (fun H locs hP hD hS => ?_)
        obtain ⟨S_13, eS_13, hf⟩ := sm_lt_e hf
        have hP : PP g (WM g ad S_13) H := by rw [eS_13]; exact pmr32 hP
        have hD : va_D (AM ad) (WM g ad S_13) := by rw [eS_13]; exact dmr32 hD
        refine lv_aload_n hx hb dX9_goes_23 rfl (lv_at hl 0 rfl) ?_
        refine va_get (D := (g.1, g.2.1)) (ci := 9) (v := .ref (ad 33)) (C := RX9) (T := TX9) (N := 39) hx hb hts in_X9 hown hK hP 0 rfl rfl 33 (by decide) (hts _ q889) (fun _ h9 => h9) rfl dX9_goes_24 ?_
        refine lv_iload_n hx hb dX9_goes_27 rfl (lv_at hl 1 rfl) ?_
        refine lv_bipush (v := (-9)) hx hb dX9_goes_28 (by decide) ?_
        obtain ⟨hg, hf⟩ := sm_gd_e hf
        refine va_iast (i := x_1) (x := (-9)) hx hb hK hP hD hS 16 0 rfl rfl (sm_in hg) dX9_goes_30 (fun H locs hP hD hS => ?_)
        obtain ⟨S_14, eS_14, hf⟩ := sm_lt_e hf
        have hP : PP g (WM g ad S_14) H := by rw [eS_14]; exact pmr33 hP
        have hD : va_D (AM ad) (WM g ad S_14) := by rw [eS_14]; exact dmr33 hD
        refine lv_iinc (v := x_1 + 1) (lv' := [(1, .int (x_1 + 1)), (0, .ref (ad 0))]) hx hb dX9_goes_31 hl (k := 1) rfl rfl (by decide) rfl (fun ls hl => ?_)
        refine lv_goto (tgt := 2) hx hb dX9_goes_34 (by decide) ?_
        cases hf
        exact ih_3 _ _ _ _ _ _ _ hc_7 hP hD hS (lv_sub hl [1, 0] rfl) kx_4
  obtain ⟨x_16, S_17, ho, hf⟩ := sm_b2_e hf
  refine L_8 FU 0 S x_16 S_17 s.heap [] ls ho hP hD hS (lv_sub hl [1, 0] rfl) ?_
  intro H locs ls hP hD hS hl
  refine lv_aload_n hx hb dX9_goes_37 rfl (lv_at hl 0 rfl) ?_
  refine va_get (D := (g.1, g.2.1)) (ci := 9) (v := .int (S_17.1 3)) (C := RX9) (T := TX9) (N := 39) hx hb hts in_X9 hown hK hP 0 rfl rfl 3 (by decide) (hts _ q859) (fun _ h9 => h9) rfl dX9_goes_38 ?_
  refine lv_istore_n (lv' := [(1, .int (S_17.1 3)), (0, .ref (ad 0))]) hx hb dX9_goes_41 rfl hl (by decide) rfl (fun ls hl => ?_)
  refine lv_iconst (v := 0) hx hb dX9_goes_42 (by decide) ?_
  refine lv_istore_n (lv' := [(2, .int 0), (1, .int (S_17.1 3)), (0, .ref (ad 0))]) hx hb dX9_goes_43 rfl hl (by decide) rfl (fun ls hl => ?_)
  refine lv_iconst (v := 0) hx hb dX9_goes_44 (by decide) ?_
  refine lv_istore_n (lv' := [(3, .int 0), (2, .int 0), (1, .int (S_17.1 3)), (0, .ref (ad 0))]) hx hb dX9_goes_45 rfl hl (by decide) rfl (fun ls hl => ?_)
  have L_27 : ∀ (n : Nat) (x_18 : Int32) (x_19 : Int32) (x_20 : Int32) (S_21 : MS) (o_28 : Int32) (o_29 : Int32) (o_30 : Int32) (o_31 : MS) (H : Heap) (locs : List Loc) (ls : Array Slot), sm_lp (fun q => fX9_goes_46 q.1 q.2.1 q.2.2.1 q.2.2.2) n (x_18, x_19, x_20, S_21) = some (o_28, o_29, o_30, o_31) → PP g (WM g ad S_21) H → va_D (AM ad) (WM g ad S_21) → va_S (AM ad) s.heap H locs → lv_has ls 5 [(0, .ref (ad 0)), (3, .int x_18), (2, .int x_19), (1, .int x_20)] → (∀ (H : Heap) (locs : List Loc) (ls : Array Slot), PP g (WM g ad o_31) H → va_D (AM ad) (WM g ad o_31) → va_S (AM ad) s.heap H locs → lv_has ls 5 [(0, .ref (ad 0)), (3, .int o_28), (2, .int o_29), (1, .int o_30)] → W p l e rX9_goes s m args below meth c H locs 0 0 Q (F0 m 216 ls [])) → W p l e rX9_goes s m args below meth c H locs 0 0 Q (F0 m 46 ls []) := by
    intro n
    induction n with
    | zero =>
      intro _ _ _ _ _ _ _ _ _ _ _ hf
      cases hf
    | succ n ih_22 =>
      intro x_18 x_19 x_20 S_21 o_28 o_29 o_30 o_31 H locs ls hf hP hD hS hl kx_23
      obtain ⟨q, hf, hc_26⟩ := sm_bnd hf
      have hf : fX9_goes_46 x_18 x_19 x_20 S_21 = some q := hf
      unfold fX9_goes_46 at hf
      refine lv_iload_n hx hb dX9_goes_46 rfl (lv_at hl 3 rfl) ?_
      refine lv_if_le (tgt := 216) hx hb dX9_goes_47 (by decide) (fun c_32 => ?_) (fun c_32 => ?_)
      · have hf := (if_pos c_32).symm.trans hf
        cases hf
        have hc_26 : some (x_18, x_19, x_20, S_21) = some (o_28, o_29, o_30, o_31) := hc_26
        cases hc_26
        exact kx_23 _ _ _ hP hD hS (lv_sub hl [0, 1, 2, 3] rfl)
      · have hf := (if_neg c_32).symm.trans hf
        refine lv_iconst (v := 0) hx hb dX9_goes_50 (by decide) ?_
        refine lv_istore (lv' := [(4, .int 0), (0, .ref (ad 0)), (3, .int x_18), (2, .int x_19), (1, .int x_20)]) hx hb dX9_goes_51 hl (by decide) rfl (fun ls hl => ?_)
        have L_41 : ∀ (n : Nat) (x_33 : Int32) (x_34 : Int32) (S_35 : MS) (o_42 : Int32) (o_43 : Int32) (o_44 : MS) (H : Heap) (locs : List Loc) (ls : Array Slot), sm_lp (fun q => fX9_goes_53 x_18 q.1 q.2.1 q.2.2) n (x_33, x_34, S_35) = some (o_42, o_43, o_44) → PP g (WM g ad S_35) H → va_D (AM ad) (WM g ad S_35) → va_S (AM ad) s.heap H locs → lv_has ls 5 [(0, .ref (ad 0)), (3, .int x_18), (2, .int x_19), (4, .int x_33), (1, .int x_34)] → (∀ (H : Heap) (locs : List Loc) (ls : Array Slot), PP g (WM g ad o_44) H → va_D (AM ad) (WM g ad o_44) → va_S (AM ad) s.heap H locs → lv_has ls 5 [(0, .ref (ad 0)), (3, .int x_18), (2, .int x_19), (4, .int o_42), (1, .int o_43)] → W p l e rX9_goes s m args below meth c H locs 0 0 Q (F0 m 153 ls [])) → W p l e rX9_goes s m args below meth c H locs 0 0 Q (F0 m 53 ls []) := by
          intro n
          induction n with
          | zero =>
            intro _ _ _ _ _ _ _ _ _ hf
            cases hf
          | succ n ih_36 =>
            intro x_33 x_34 S_35 o_42 o_43 o_44 H locs ls hf hP hD hS hl kx_37
            obtain ⟨q, hf, hc_40⟩ := sm_bnd hf
            have hf : fX9_goes_53 x_18 x_33 x_34 S_35 = some q := hf
            unfold fX9_goes_53 at hf
            refine lv_iload hx hb dX9_goes_53 (lv_at hl 3 rfl) ?_
            refine lv_aload_n hx hb dX9_goes_55 rfl (lv_at hl 0 rfl) ?_
            refine va_get (D := (g.1, g.2.1)) (ci := 9) (v := .int (S_35.1 3)) (C := RX9) (T := TX9) (N := 39) hx hb hts in_X9 hown hK hP 0 rfl rfl 3 (by decide) (hts _ q859) (fun _ h9 => h9) rfl dX9_goes_56 ?_
            refine lv_icmp_ge (tgt := 153) hx hb dX9_goes_59 (by decide) (fun c_45 => ?_) (fun c_45 => ?_)
            · have hf := (if_pos c_45).symm.trans hf
              cases hf
              have hc_40 : some (x_33, x_34, S_35) = some (o_42, o_43, o_44) := hc_40
              cases hc_40
              exact kx_37 _ _ _ hP hD hS (lv_sub hl [0, 1, 2, 3, 4] rfl)
            · have hf := (if_neg c_45).symm.trans hf
              refine lv_aload_n hx hb dX9_goes_62 rfl (lv_at hl 0 rfl) ?_
              refine va_get (D := (g.1, g.2.1)) (ci := 9) (v := .ref (ad 32)) (C := RX9) (T := TX9) (N := 39) hx hb hts in_X9 hown hK hP 0 rfl rfl 32 (by decide) (hts _ q888) (fun _ h9 => h9) rfl dX9_goes_63 ?_
              refine lv_iload hx hb dX9_goes_66 (lv_at hl 3 rfl) ?_
              refine lv_dup2_11 hx hb dX9_goes_68 rfl rfl ?_
              obtain ⟨hg, hf⟩ := sm_gd_e hf
              refine va_iald hx hb hK hP 15 0 rfl rfl (sm_in hg) dX9_goes_69 ?_
              refine lv_aload_n hx hb dX9_goes_70 rfl (lv_at hl 0 rfl) ?_
              refine va_get (D := (g.1, g.2.1)) (ci := 9) (v := .ref (ad 31)) (C := RX9) (T := TX9) (N := 39) hx hb hts in_X9 hown hK hP 0 rfl rfl 31 (by decide) (hts _ q887) (fun _ h9 => h9) rfl dX9_goes_71 ?_
              refine lv_iload hx hb dX9_goes_74 (lv_at hl 3 rfl) ?_
              obtain ⟨hg, hf⟩ := sm_gd_e hf
              refine va_iald hx hb hK hP 14 0 rfl rfl (sm_in hg) dX9_goes_76 ?_
              refine lv_bipush (v := (-9)) hx hb dX9_goes_77 (by decide) ?_
              obtain ⟨x_46, hf, hf0⟩ := sm_b1_e hf
              suffices hj_47 : ∀ (ls : Array Slot), lv_has ls 5 [(0, .ref (ad 0)), (3, .int x_18), (2, .int x_19), (4, .int x_33), (1, .int x_34)] → W p l e rX9_goes s m args below meth c H locs 0 0 Q (F0 m 91 ls [.int x_46, .int (S_35.2.1 32 x_33.toNatClampNeg), .int x_33, .ref (ad 32)]) from by
                refine lv_icmp_eq (tgt := 86) hx hb dX9_goes_79 (by decide) (fun c_48 => ?_) (fun c_48 => ?_)
                · have hf := (if_pos c_48).symm.trans hf
                  refine lv_iconst (v := 0) hx hb dX9_goes_86 (by decide) ?_
                  refine lv_goto (tgt := 91) hx hb dX9_goes_87 (by decide) ?_
                  cases hf
                  exact hj_47 _ (lv_sub hl [0, 1, 2, 3, 4] rfl)
                · have hf := (if_neg c_48).symm.trans hf
                  refine lv_iload_n hx hb dX9_goes_82 rfl (lv_at hl 1 rfl) ?_
                  refine lv_if_ne (tgt := 90) hx hb dX9_goes_83 (by decide) (fun c_49 => ?_) (fun c_49 => ?_)
                  · have hf := (if_neg c_49).symm.trans hf
                    refine lv_iconst (v := 1) hx hb dX9_goes_90 (by decide) ?_
                    cases hf
                    exact hj_47 _ (lv_sub hl [0, 1, 2, 3, 4] rfl)
                  · have hf := (if_pos c_49).symm.trans hf
                    refine lv_iconst (v := 0) hx hb dX9_goes_86 (by decide) ?_
                    refine lv_goto (tgt := 91) hx hb dX9_goes_87 (by decide) ?_
                    cases hf
                    exact hj_47 _ (lv_sub hl [0, 1, 2, 3, 4] rfl)
              intro ls hl
              have hf := hf0
              refine lv_iadd hx hb dX9_goes_91 ?_
              obtain ⟨hg, hf⟩ := sm_gd_e hf
              refine va_iast (i := x_33) (x := (S_35.2.1 32 x_33.toNatClampNeg) + x_46) hx hb hK hP hD hS 15 0 rfl rfl (sm_in hg) dX9_goes_92 (fun H locs hP hD hS => ?_)
              obtain ⟨S_50, eS_50, hf⟩ := sm_lt_e hf
              have hP : PP g (WM g ad S_50) H := by rw [eS_50]; exact pmr32 hP
              have hD : va_D (AM ad) (WM g ad S_50) := by rw [eS_50]; exact dmr32 hD
              refine lv_aload_n hx hb dX9_goes_93 rfl (lv_at hl 0 rfl) ?_
              refine va_get (D := (g.1, g.2.1)) (ci := 9) (v := .ref (ad 31)) (C := RX9) (T := TX9) (N := 39) hx hb hts in_X9 hown hK hP 0 rfl rfl 31 (by decide) (hts _ q887) (fun _ h9 => h9) rfl dX9_goes_94 ?_
              refine lv_iload hx hb dX9_goes_97 (lv_at hl 3 rfl) ?_
              obtain ⟨hg, hf⟩ := sm_gd_e hf
              refine va_iald hx hb hK hP 14 0 rfl rfl (sm_in hg) dX9_goes_99 ?_
              refine lv_bipush (v := (-9)) hx hb dX9_goes_100 (by decide) ?_
              refine lv_icmp_eq (tgt := 147) hx hb dX9_goes_102 (by decide) (fun c_51 => ?_) (fun c_51 => ?_)
              · have hf := (if_pos c_51).symm.trans hf
                refine lv_iinc (v := x_33 + 1) (lv' := [(4, .int (x_33 + 1)), (0, .ref (ad 0)), (3, .int x_18), (2, .int x_19), (1, .int x_34)]) hx hb dX9_goes_147 hl (k := 3) rfl rfl (by decide) rfl (fun ls hl => ?_)
                refine lv_goto (tgt := 53) hx hb dX9_goes_150 (by decide) ?_
                cases hf
                exact ih_36 _ _ _ _ _ _ _ _ _ hc_40 hP hD hS (lv_sub hl [1, 2, 3, 0, 4] rfl) kx_37
              · have hf := (if_neg c_51).symm.trans hf
                refine lv_aload_n hx hb dX9_goes_105 rfl (lv_at hl 0 rfl) ?_
                refine va_get (D := (g.1, g.2.1)) (ci := 9) (v := .ref (ad 32)) (C := RX9) (T := TX9) (N := 39) hx hb hts in_X9 hown hK hP 0 rfl rfl 32 (by decide) (hts _ q888) (fun _ h9 => h9) rfl dX9_goes_106 ?_
                refine lv_iload hx hb dX9_goes_109 (lv_at hl 3 rfl) ?_
                obtain ⟨hg, hf⟩ := sm_gd_e hf
                refine va_iald hx hb hK hP 15 0 rfl rfl (sm_in hg) dX9_goes_111 ?_
                refine lv_aload_n hx hb dX9_goes_112 rfl (lv_at hl 0 rfl) ?_
                refine va_get (D := (g.1, g.2.1)) (ci := 9) (v := .int (S_50.1 0)) (C := RX9) (T := TX9) (N := 39) hx hb hts in_X9 hown hK hP 0 rfl rfl 0 (by decide) (hts _ q856) (fun _ h9 => h9) rfl dX9_goes_113 ?_
                refine lv_icmp_lt (tgt := 147) hx hb dX9_goes_116 (by decide) (fun c_52 => ?_) (fun c_52 => ?_)
                · have hf := (if_pos c_52).symm.trans hf
                  refine lv_iinc (v := x_33 + 1) (lv' := [(4, .int (x_33 + 1)), (0, .ref (ad 0)), (3, .int x_18), (2, .int x_19), (1, .int x_34)]) hx hb dX9_goes_147 hl (k := 3) rfl rfl (by decide) rfl (fun ls hl => ?_)
                  refine lv_goto (tgt := 53) hx hb dX9_goes_150 (by decide) ?_
                  cases hf
                  exact ih_36 _ _ _ _ _ _ _ _ _ hc_40 hP hD hS (lv_sub hl [1, 2, 3, 0, 4] rfl) kx_37
                · have hf := (if_neg c_52).symm.trans hf
                  refine lv_aload_n hx hb dX9_goes_119 rfl (lv_at hl 0 rfl) ?_
                  refine lv_iload_n hx hb dX9_goes_120 rfl (lv_at hl 1 rfl) ?_
                  obtain ⟨r_53, h_54, hf⟩ := sm_b1_e hf
                  refine vp_callSi (W.runV (As := [.int x_18]) (rest := []) ⟨hx, hb, hml, hown, hts⟩ (wX9_sailsOn l g ad S_50 x_18 r_53 h_54) (cwV 1 hts (lw_V q1057 q1059 qs35 q70 q1060) rfl rfl rfl (by decide +kernel) ⟨Nat.le_of_ble_eq_true rfl, Nat.le_of_ble_eq_true rfl⟩) (sm_pv hE hP (va_recv hK hP (ci := 9) (q0 := 0) rfl rfl)) rfl rfl hl.1 rfl (lv_room (Nat.le_of_ble_eq_true rfl)) dX9_goes_121 ⟨Nat.le_of_ble_eq_true rfl, Nat.le_of_ble_eq_true rfl⟩) (fun r_56 er_55 => ?_)
                  have er_55 := er_55.symm
                  subst er_55
                  refine lv_if_eq (tgt := 147) hx hb dX9_goes_124 (by decide) (fun c_57 => ?_) (fun c_57 => ?_)
                  · have hf := (if_pos c_57).symm.trans hf
                    refine lv_iinc (v := x_33 + 1) (lv' := [(4, .int (x_33 + 1)), (0, .ref (ad 0)), (3, .int x_18), (2, .int x_19), (1, .int x_34)]) hx hb dX9_goes_147 hl (k := 3) rfl rfl (by decide) rfl (fun ls hl => ?_)
                    refine lv_goto (tgt := 53) hx hb dX9_goes_150 (by decide) ?_
                    cases hf
                    exact ih_36 _ _ _ _ _ _ _ _ _ hc_40 hP hD hS (lv_sub hl [1, 2, 3, 0, 4] rfl) kx_37
                  · have hf := (if_neg c_57).symm.trans hf
                    refine lv_aload_n hx hb dX9_goes_127 rfl (lv_at hl 0 rfl) ?_
                    refine va_get (D := (g.1, g.2.1)) (ci := 9) (v := .ref (ad 33)) (C := RX9) (T := TX9) (N := 39) hx hb hts in_X9 hown hK hP 0 rfl rfl 33 (by decide) (hts _ q889) (fun _ h9 => h9) rfl dX9_goes_128 ?_
                    refine lv_iload hx hb dX9_goes_131 (lv_at hl 3 rfl) ?_
                    refine lv_iload_n hx hb dX9_goes_133 rfl (lv_at hl 1 rfl) ?_
                    obtain ⟨hg, hf⟩ := sm_gd_e hf
                    refine va_iast (i := x_33) (x := x_18) hx hb hK hP hD hS 16 0 rfl rfl (sm_in hg) dX9_goes_134 (fun H locs hP hD hS => ?_)
                    obtain ⟨S_58, eS_58, hf⟩ := sm_lt_e hf
                    have hP : PP g (WM g ad S_58) H := by rw [eS_58]; exact pmr33 hP
                    have hD : va_D (AM ad) (WM g ad S_58) := by rw [eS_58]; exact dmr33 hD
                    refine lv_aload_n hx hb dX9_goes_135 rfl (lv_at hl 0 rfl) ?_
                    refine va_get (D := (g.1, g.2.1)) (ci := 9) (v := .ref (ad 31)) (C := RX9) (T := TX9) (N := 39) hx hb hts in_X9 hown hK hP 0 rfl rfl 31 (by decide) (hts _ q887) (fun _ h9 => h9) rfl dX9_goes_136 ?_
                    refine lv_iload hx hb dX9_goes_139 (lv_at hl 3 rfl) ?_
                    refine lv_bipush (v := (-9)) hx hb dX9_goes_141 (by decide) ?_
                    obtain ⟨hg, hf⟩ := sm_gd_e hf
                    refine va_iast (i := x_33) (x := (-9)) hx hb hK hP hD hS 14 0 rfl rfl (sm_in hg) dX9_goes_143 (fun H locs hP hD hS => ?_)
                    obtain ⟨S_59, eS_59, hf⟩ := sm_lt_e hf
                    have hP : PP g (WM g ad S_59) H := by rw [eS_59]; exact pmr31 hP
                    have hD : va_D (AM ad) (WM g ad S_59) := by rw [eS_59]; exact dmr31 hD
                    refine lv_iinc (v := x_34 + (-1)) (lv' := [(1, .int (x_34 + (-1))), (0, .ref (ad 0)), (3, .int x_18), (2, .int x_19), (4, .int x_33)]) hx hb dX9_goes_144 hl (k := 4) rfl rfl (by decide) rfl (fun ls hl => ?_)
                    refine lv_iinc (v := x_33 + 1) (lv' := [(4, .int (x_33 + 1)), (1, .int (x_34 + (-1))), (0, .ref (ad 0)), (3, .int x_18), (2, .int x_19)]) hx hb dX9_goes_147 hl (k := 4) rfl rfl (by decide) rfl (fun ls hl => ?_)
                    refine lv_goto (tgt := 53) hx hb dX9_goes_150 (by decide) ?_
                    cases hf
                    exact ih_36 _ _ _ _ _ _ _ _ _ hc_40 hP hD hS (lv_sub hl [2, 3, 4, 0, 1] rfl) kx_37
        obtain ⟨x_61, x_62, S_63, ho, hf⟩ := sm_b3_e hf
        refine L_41 FU 0 x_20 S_21 x_61 x_62 S_63 H locs ls ho hP hD hS (lv_sub hl [1, 2, 3, 0, 4] rfl) ?_
        intro H locs ls hP hD hS hl
        refine lv_iconst (v := 0) hx hb dX9_goes_153 (by decide) ?_
        refine lv_istore (lv' := [(4, .int 0), (0, .ref (ad 0)), (3, .int x_18), (2, .int x_19), (1, .int x_62)]) hx hb dX9_goes_154 hl (by decide) rfl (fun ls hl => ?_)
        have L_71 : ∀ (n : Nat) (x_64 : Int32) (S_65 : MS) (o_72 : Int32) (o_73 : MS) (H : Heap) (locs : List Loc) (ls : Array Slot), sm_lp (fun q => fX9_goes_156 x_18 q.1 q.2) n (x_64, S_65) = some (o_72, o_73) → PP g (WM g ad S_65) H → va_D (AM ad) (WM g ad S_65) → va_S (AM ad) s.heap H locs → lv_has ls 5 [(0, .ref (ad 0)), (3, .int x_18), (2, .int x_19), (1, .int x_62), (4, .int x_64)] → (∀ (H : Heap) (locs : List Loc) (ls : Array Slot), PP g (WM g ad o_73) H → va_D (AM ad) (WM g ad o_73) → va_S (AM ad) s.heap H locs → lv_has ls 5 [(0, .ref (ad 0)), (3, .int x_18), (2, .int x_19), (1, .int x_62), (4, .int o_72)] → W p l e rX9_goes s m args below meth c H locs 0 0 Q (F0 m 190 ls [])) → W p l e rX9_goes s m args below meth c H locs 0 0 Q (F0 m 156 ls []) := by
          intro n
          induction n with
          | zero =>
            intro _ _ _ _ _ _ _ hf
            cases hf
          | succ n ih_66 =>
            intro x_64 S_65 o_72 o_73 H locs ls hf hP hD hS hl kx_67
            obtain ⟨q, hf, hc_70⟩ := sm_bnd hf
            have hf : fX9_goes_156 x_18 x_64 S_65 = some q := hf
            unfold fX9_goes_156 at hf
            refine lv_iload hx hb dX9_goes_156 (lv_at hl 4 rfl) ?_
            refine lv_aload_n hx hb dX9_goes_158 rfl (lv_at hl 0 rfl) ?_
            refine va_get (D := (g.1, g.2.1)) (ci := 9) (v := .int (S_65.1 3)) (C := RX9) (T := TX9) (N := 39) hx hb hts in_X9 hown hK hP 0 rfl rfl 3 (by decide) (hts _ q859) (fun _ h9 => h9) rfl dX9_goes_159 ?_
            refine lv_icmp_ge (tgt := 190) hx hb dX9_goes_162 (by decide) (fun c_74 => ?_) (fun c_74 => ?_)
            · have hf := (if_pos c_74).symm.trans hf
              cases hf
              have hc_70 : some (x_64, S_65) = some (o_72, o_73) := hc_70
              cases hc_70
              exact kx_67 _ _ _ hP hD hS (lv_sub hl [0, 1, 2, 3, 4] rfl)
            · have hf := (if_neg c_74).symm.trans hf
              refine lv_aload_n hx hb dX9_goes_165 rfl (lv_at hl 0 rfl) ?_
              refine va_get (D := (g.1, g.2.1)) (ci := 9) (v := .ref (ad 4)) (C := RX9) (T := TX9) (N := 39) hx hb hts in_X9 hown hK hP 0 rfl rfl 4 (by decide) (hts _ q860) (fun _ h9 => h9) rfl dX9_goes_166 ?_
              refine lv_iconst (v := 2) hx hb dX9_goes_169 (by decide) ?_
              refine lv_iload hx hb dX9_goes_170 (lv_at hl 4 rfl) ?_
              refine lv_imul hx hb dX9_goes_172 ?_
              obtain ⟨hg, hf⟩ := sm_gd_e hf
              refine va_iald hx hb hK hP 1 0 rfl rfl (sm_in hg) dX9_goes_173 ?_
              refine lv_iload_n hx hb dX9_goes_174 rfl (lv_at hl 1 rfl) ?_
              refine lv_icmp_ne (tgt := 184) hx hb dX9_goes_175 (by decide) (fun c_75 => ?_) (fun c_75 => ?_)
              · have hf := (if_neg c_75).symm.trans hf
                refine lv_iinc (v := x_64 + 1) (lv' := [(4, .int (x_64 + 1)), (0, .ref (ad 0)), (3, .int x_18), (2, .int x_19), (1, .int x_62)]) hx hb dX9_goes_184 hl (k := 4) rfl rfl (by decide) rfl (fun ls hl => ?_)
                refine lv_goto (tgt := 156) hx hb dX9_goes_187 (by decide) ?_
                cases hf
                exact ih_66 _ _ _ _ _ _ _ hc_70 hP hD hS (lv_sub hl [1, 2, 3, 4, 0] rfl) kx_67
              · have hf := (if_pos c_75).symm.trans hf
                refine lv_aload_n hx hb dX9_goes_178 rfl (lv_at hl 0 rfl) ?_
                refine lv_iload hx hb dX9_goes_179 (lv_at hl 4 rfl) ?_
                obtain ⟨S_76, h_77, hf⟩ := sm_b1_e hf
                refine va_callv (va_runV (As := [.int x_64]) (rest := []) ⟨hx, hb, hml, hown, hts⟩ (wX9_comes l g ad S_65 x_64 S_76 h_77) (cwV 1 hts (lw_V q1108 q1110 qs42 q70 q1111) rfl rfl rfl (by decide +kernel) ⟨Nat.le_of_ble_eq_true rfl, Nat.le_of_ble_eq_true rfl⟩) (sm_pe hE hP hD (va_recv hK hP (ci := 9) (q0 := 0) rfl rfl)) rfl rfl hl.1 rfl (lv_room (Nat.le_of_ble_eq_true rfl)) dX9_goes_181 ⟨Nat.le_of_ble_eq_true rfl, Nat.le_of_ble_eq_true rfl⟩) hS (fun _ _ h => h) (fun _ h => h) (fun u t H locs ht hvm er_78 hB hz hk hS => ?_)
                obtain ⟨hP, hD⟩ := hB
                rw [ht] at hP
                refine lv_iinc (v := x_64 + 1) (lv' := [(4, .int (x_64 + 1)), (0, .ref (ad 0)), (3, .int x_18), (2, .int x_19), (1, .int x_62)]) hx hb dX9_goes_184 hl (k := 4) rfl rfl (by decide) rfl (fun ls hl => ?_)
                refine lv_goto (tgt := 156) hx hb dX9_goes_187 (by decide) ?_
                cases hf
                exact ih_66 _ _ _ _ _ _ _ hc_70 hP hD hS (lv_sub hl [1, 2, 3, 4, 0] rfl) kx_67
        obtain ⟨x_81, S_82, ho, hf⟩ := sm_b2_e hf
        refine L_71 FU 0 S_63 x_81 S_82 H locs ls ho hP hD hS (lv_sub hl [1, 2, 3, 4, 0] rfl) ?_
        intro H locs ls hP hD hS hl
        refine lv_iload_n hx hb dX9_goes_190 rfl (lv_at hl 2 rfl) ?_
        refine lv_iload_n hx hb dX9_goes_191 rfl (lv_at hl 3 rfl) ?_
        refine lv_if_le (tgt := 207) hx hb dX9_goes_192 (by decide) (fun c_83 => ?_) (fun c_83 => ?_)
        · have hf := (if_pos c_83).symm.trans hf
          refine lv_iconst (v := 0) hx hb dX9_goes_207 (by decide) ?_
          refine lv_iadd hx hb dX9_goes_208 ?_
          refine lv_istore_n (lv' := [(2, .int (x_19 + 0)), (0, .ref (ad 0)), (3, .int x_18), (1, .int x_62), (4, .int x_81)]) hx hb dX9_goes_209 rfl hl (by decide) rfl (fun ls hl => ?_)
          refine lv_iinc (v := x_18 + 1) (lv' := [(3, .int (x_18 + 1)), (2, .int (x_19 + 0)), (0, .ref (ad 0)), (1, .int x_62), (4, .int x_81)]) hx hb dX9_goes_210 hl (k := 2) rfl rfl (by decide) rfl (fun ls hl => ?_)
          refine lv_goto (tgt := 46) hx hb dX9_goes_213 (by decide) ?_
          cases hf
          exact ih_22 _ _ _ _ _ _ _ _ _ _ _ hc_26 hP hD hS (lv_sub hl [2, 0, 1, 3] rfl) kx_23
        · have hf := (if_neg c_83).symm.trans hf
          refine lv_aload_n hx hb dX9_goes_195 rfl (lv_at hl 0 rfl) ?_
          refine lv_aload_n hx hb dX9_goes_196 rfl (lv_at hl 0 rfl) ?_
          refine va_get (D := (g.1, g.2.1)) (ci := 9) (v := .ref (ad 31)) (C := RX9) (T := TX9) (N := 39) hx hb hts in_X9 hown hK hP 0 rfl rfl 31 (by decide) (hts _ q887) (fun _ h9 => h9) rfl dX9_goes_197 ?_
          refine lv_iconst (v := 0) hx hb dX9_goes_200 (by decide) ?_
          obtain ⟨r_84, h_85, hf⟩ := sm_b1_e hf
          refine vp_callSi (W.runV (As := [.ref (ad 31), .int 0]) (rest := [.int x_19]) ⟨hx, hb, hml, hown, hts⟩ (wX9_vinegar_14 l g ad S_82 0 r_84 h_85) (cwV 2 hts (lw_V q1077 q1079 qs38 q70 q1080) rfl rfl rfl (by decide +kernel) ⟨Nat.le_of_ble_eq_true rfl, Nat.le_of_ble_eq_true rfl⟩) (sm_pv hE hP (va_recv hK hP (ci := 9) (q0 := 0) rfl rfl)) rfl rfl hl.1 rfl (lv_room (Nat.le_of_ble_eq_true rfl)) dX9_goes_201 ⟨Nat.le_of_ble_eq_true rfl, Nat.le_of_ble_eq_true rfl⟩) (fun r_87 er_86 => ?_)
          have er_86 := er_86.symm
          subst er_86
          refine lv_goto (tgt := 208) hx hb dX9_goes_204 (by decide) ?_
          refine lv_iadd hx hb dX9_goes_208 ?_
          refine lv_istore_n (lv' := [(2, .int (x_19 + r_84)), (0, .ref (ad 0)), (3, .int x_18), (1, .int x_62), (4, .int x_81)]) hx hb dX9_goes_209 rfl hl (by decide) rfl (fun ls hl => ?_)
          refine lv_iinc (v := x_18 + 1) (lv' := [(3, .int (x_18 + 1)), (2, .int (x_19 + r_84)), (0, .ref (ad 0)), (1, .int x_62), (4, .int x_81)]) hx hb dX9_goes_210 hl (k := 2) rfl rfl (by decide) rfl (fun ls hl => ?_)
          refine lv_goto (tgt := 46) hx hb dX9_goes_213 (by decide) ?_
          cases hf
          exact ih_22 _ _ _ _ _ _ _ _ _ _ _ hc_26 hP hD hS (lv_sub hl [2, 0, 1, 3] rfl) kx_23
  obtain ⟨x_89, x_90, x_91, S_92, ho, hf⟩ := sm_b4_e hf
  refine L_27 FU 0 0 (S_17.1 3) S_17 x_89 x_90 x_91 S_92 H locs ls ho hP hD hS (lv_sub hl [3, 0, 1, 2] rfl) ?_
  intro H locs ls hP hD hS hl
  refine lv_iload_n hx hb dX9_goes_216 rfl (lv_at hl 2 rfl) ?_
  have hf := Option.some.inj hf
  rw [← hQ]
  have hf := Prod.mk.inj hf
  exact W.iret (v := x_90) hx hb hr (fun t ht hW => ⟨⟨_, (), rfl, hf.2, by rw [ht, ← hf.1]; exact hP, by rw [← hf.1]; exact hD⟩, hS.F ht⟩) hS.2.2 dX9_goes_217
abbrev rX9_most : Room := { frames := 2, cells := 0, slots := 0, locals := 50 }
set_option maxHeartbeats 4000000 in
theorem wX9_most (l : Launch) (g : GG) (ad : Nat → Nat) (S : MS) (a1 : Int32) (a2 : Int32) (Sf : MS) (rf : Int32) (hf : fX9_most S a1 a2 = some (Sf, rf)) : Met l yX9_most (ws_ yX9_most cX9_most 6 (some .int)) rX9_most (va_Pc [.ref (ad 0), .int a1, .int a2] (fun U => PP g (WM g ad S) U.heap ∧ EV g U ∧ va_D (AM ad) (WM g ad S))) (va_Qi (fun y (_ : Unit) => y = rf) (fun _ t => PP g (WM g ad Sf) t.heap ∧ va_D (AM ad) (WM g ad Sf)) (AM ad)) 0 0 (AM ad) := by
  refine sm_st (by decide) ?_
  intro p e s m args below meth c hx hb hr hlocks hml hown hnm hts hv
  obtain ⟨hargs, hP, hE, hD⟩ := hv
  obtain ⟨hK, hN⟩ := id hE
  have hS : va_S (AM ad) s.heap s.heap [] := va_S.rf
  have hown : s.vm.findClass RX9 = some m.cls := hown
  refine sm_en _ (Nat.le_of_ble_eq_true rfl) hargs (fun ls hl => ?_)
  have hl : lv_has ls 6 [(0, .ref (ad 0)), (1, .int a1), (2, .int a2)] := hl
  generalize hQ : MQ below _ args s _ _ _ = Q
  unfold fX9_most at hf
  refine lv_iload_n hx hb dX9_most_0 rfl (lv_at hl 1 rfl) ?_
  refine lv_iconst (v := 0) hx hb dX9_most_1 (by decide) ?_
  refine lv_sipush (v := 200) hx hb dX9_most_2 (by decide) ?_
  refine vp_callSi (W.runS (As := [.int a1, .int 0, .int 200]) (rest := []) ⟨hx, hb, hml, hown, hts⟩ (wX9_in l a1 0 200 (fX9_in a1 0 200) rfl) (va_cwS 3 hts (lw_S q979 q980 q70 q981) rfl rfl rfl (by decide +kernel) ⟨Nat.le_of_ble_eq_true rfl, Nat.le_of_ble_eq_true rfl⟩) (sm_ps) rfl rfl hl.1 rfl (lv_room (Nat.le_of_ble_eq_true rfl)) dX9_most_5 ⟨Nat.le_of_ble_eq_true rfl, Nat.le_of_ble_eq_true rfl⟩) (fun r_2 er_1 => ?_)
  have er_1 := er_1.symm
  subst er_1
  refine lv_if_eq (tgt := 25) hx hb dX9_most_8 (by decide) (fun c_3 => ?_) (fun c_3 => ?_)
  · have hf := (if_pos c_3).symm.trans hf
    refine lv_iconst (v := (-1)) hx hb dX9_most_25 (by decide) ?_
    have hf := Option.some.inj hf
    rw [← hQ]
    have hf := Prod.mk.inj hf
    exact W.iret (v := (-1)) hx hb hr (fun t ht hW => ⟨⟨_, (), rfl, hf.2, by rw [ht, ← hf.1]; exact hP, by rw [← hf.1]; exact hD⟩, hS.F ht⟩) hS.2.2 dX9_most_26
  · have hf := (if_neg c_3).symm.trans hf
    refine lv_iload_n hx hb dX9_most_11 rfl (lv_at hl 2 rfl) ?_
    refine lv_bipush (v := (-9)) hx hb dX9_most_12 (by decide) ?_
    obtain ⟨q_10, hf, hq_5⟩ := sm_r_e hf
    suffices hj_4 : ∀ (ls : Array Slot), q_10 = Sum.inl () → lv_has ls 6 [(0, .ref (ad 0)), (1, .int a1), (2, .int a2)] → W p l e rX9_most s m args below meth c s.heap [] 0 0 Q (F0 m 27 ls []) from by
      refine lv_icmp_eq (tgt := 27) hx hb dX9_most_14 (by decide) (fun c_6 => ?_) (fun c_6 => ?_)
      · have hf := (if_pos c_6).symm.trans hf
        cases hf
        exact hj_4 _ rfl (lv_sub hl [0, 1, 2] rfl)
      · have hf := (if_neg c_6).symm.trans hf
        refine lv_aload_n hx hb dX9_most_17 rfl (lv_at hl 0 rfl) ?_
        refine lv_iload_n hx hb dX9_most_18 rfl (lv_at hl 2 rfl) ?_
        refine vp_callSi (W.runV (As := [.int a2]) (rest := []) ⟨hx, hb, hml, hown, hts⟩ (wX9_isTraveller l g ad S a2 (fX9_isTraveller S a2) rfl) (cwV 1 hts (lw_V q1029 q1031 qs30 q70 q1032) rfl rfl rfl (by decide +kernel) ⟨Nat.le_of_ble_eq_true rfl, Nat.le_of_ble_eq_true rfl⟩) (sm_pv hE hP (va_recv hK hP (ci := 9) (q0 := 0) rfl rfl)) rfl rfl hl.1 rfl (lv_room (Nat.le_of_ble_eq_true rfl)) dX9_most_19 ⟨Nat.le_of_ble_eq_true rfl, Nat.le_of_ble_eq_true rfl⟩) (fun r_8 er_7 => ?_)
        have er_7 := er_7.symm
        subst er_7
        refine lv_if_ne (tgt := 27) hx hb dX9_most_22 (by decide) (fun c_9 => ?_) (fun c_9 => ?_)
        · have hf := (if_neg c_9).symm.trans hf
          cases hf
          exact hj_4 _ rfl (lv_sub hl [0, 1, 2] rfl)
        · have hf := (if_pos c_9).symm.trans hf
          refine lv_iconst (v := (-1)) hx hb dX9_most_25 (by decide) ?_
          cases hf
          have hf := hq_5
          dsimp only [Sum.elim_inr] at hf
          have hf := Option.some.inj hf
          rw [← hQ]
          have hf := Prod.mk.inj hf
          exact W.iret (v := (-1)) hx hb hr (fun t ht hW => ⟨⟨_, (), rfl, hf.2, by rw [ht, ← hf.1]; exact hP, by rw [← hf.1]; exact hD⟩, hS.F ht⟩) hS.2.2 dX9_most_26
    intro ls eq_ hl
    subst eq_
    have hf := hq_5
    dsimp only [Sum.elim_inl, sm_u1] at hf
    refine lv_iconst (v := 0) hx hb dX9_most_27 (by decide) ?_
    refine lv_istore_n (lv' := [(3, .int 0), (0, .ref (ad 0)), (1, .int a1), (2, .int a2)]) hx hb dX9_most_28 rfl hl (by decide) rfl (fun ls hl => ?_)
    refine lv_iconst (v := (-1)) hx hb dX9_most_29 (by decide) ?_
    refine lv_istore (lv' := [(4, .int (-1)), (3, .int 0), (0, .ref (ad 0)), (1, .int a1), (2, .int a2)]) hx hb dX9_most_30 hl (by decide) rfl (fun ls hl => ?_)
    refine lv_iconst (v := 0) hx hb dX9_most_32 (by decide) ?_
    refine lv_istore (lv' := [(5, .int 0), (4, .int (-1)), (3, .int 0), (0, .ref (ad 0)), (1, .int a1), (2, .int a2)]) hx hb dX9_most_33 hl (by decide) rfl (fun ls hl => ?_)
    have L_20 : ∀ (n : Nat) (x_11 : Int32) (x_12 : Int32) (x_13 : Int32) (S_14 : MS) (o_21 : Int32) (o_22 : Int32) (o_23 : Int32) (o_24 : MS) (H : Heap) (locs : List Loc) (ls : Array Slot), sm_lp (fun q => fX9_most_35 a1 q.1 q.2.1 q.2.2.1 q.2.2.2) n (x_11, x_12, x_13, S_14) = some (o_21, o_22, o_23, o_24) → PP g (WM g ad S_14) H → va_D (AM ad) (WM g ad S_14) → va_S (AM ad) s.heap H locs → lv_has ls 6 [(0, .ref (ad 0)), (1, .int a1), (2, .int a2), (5, .int x_11), (4, .int x_12), (3, .int x_13)] → (∀ (H : Heap) (locs : List Loc) (ls : Array Slot), PP g (WM g ad o_24) H → va_D (AM ad) (WM g ad o_24) → va_S (AM ad) s.heap H locs → lv_has ls 6 [(0, .ref (ad 0)), (1, .int a1), (2, .int a2), (5, .int o_21), (4, .int o_22), (3, .int o_23)] → W p l e rX9_most s m args below meth c H locs 0 0 Q (F0 m 108 ls [])) → W p l e rX9_most s m args below meth c H locs 0 0 Q (F0 m 35 ls []) := by
      intro n
      induction n with
      | zero =>
        intro _ _ _ _ _ _ _ _ _ _ _ hf
        cases hf
      | succ n ih_15 =>
        intro x_11 x_12 x_13 S_14 o_21 o_22 o_23 o_24 H locs ls hf hP hD hS hl kx_16
        obtain ⟨q, hf, hc_19⟩ := sm_bnd hf
        have hf : fX9_most_35 a1 x_11 x_12 x_13 S_14 = some q := hf
        unfold fX9_most_35 at hf
        refine lv_iload hx hb dX9_most_35 (lv_at hl 3 rfl) ?_
        refine lv_aload_n hx hb dX9_most_37 rfl (lv_at hl 0 rfl) ?_
        refine lv_aload_n hx hb dX9_most_38 rfl (lv_at hl 0 rfl) ?_
        refine va_get (D := (g.1, g.2.1)) (ci := 9) (v := .int (S_14.1 1)) (C := RX9) (T := TX9) (N := 39) hx hb hts in_X9 hown hK hP 0 rfl rfl 1 (by decide) (hts _ q857) (fun _ h9 => h9) rfl dX9_most_39 ?_
        refine lv_aload_n hx hb dX9_most_42 rfl (lv_at hl 0 rfl) ?_
        refine va_get (D := (g.1, g.2.1)) (ci := 9) (v := .int (S_14.1 3)) (C := RX9) (T := TX9) (N := 39) hx hb hts in_X9 hown hK hP 0 rfl rfl 3 (by decide) (hts _ q859) (fun _ h9 => h9) rfl dX9_most_43 ?_
        obtain ⟨r_25, h_26, hf⟩ := sm_b1_e hf
        refine vp_callSi (W.runV (As := [.int (S_14.1 1), .int (S_14.1 3)]) (rest := [.int x_11]) ⟨hx, hb, hml, hown, hts⟩ (wX9_power l g ad S_14 (S_14.1 1) (S_14.1 3) r_25 h_26) (cwV 2 hts (lw_V q1096 q1098 qs39 q70 q1099) rfl rfl rfl (by decide +kernel) ⟨Nat.le_of_ble_eq_true rfl, Nat.le_of_ble_eq_true rfl⟩) (sm_pv hE hP (va_recv hK hP (ci := 9) (q0 := 0) rfl rfl)) rfl rfl hl.1 rfl (lv_room (Nat.le_of_ble_eq_true rfl)) dX9_most_46 ⟨Nat.le_of_ble_eq_true rfl, Nat.le_of_ble_eq_true rfl⟩) (fun r_28 er_27 => ?_)
        have er_27 := er_27.symm
        subst er_27
        refine lv_icmp_ge (tgt := 108) hx hb dX9_most_49 (by decide) (fun c_29 => ?_) (fun c_29 => ?_)
        · have hf := (if_pos c_29).symm.trans hf
          cases hf
          have hc_19 : some (x_11, x_12, x_13, S_14) = some (o_21, o_22, o_23, o_24) := hc_19
          cases hc_19
          exact kx_16 _ _ _ hP hD hS (lv_sub hl [0, 1, 2, 3, 4, 5] rfl)
        · have hf := (if_neg c_29).symm.trans hf
          refine lv_aload_n hx hb dX9_most_52 rfl (lv_at hl 0 rfl) ?_
          refine lv_iload hx hb dX9_most_53 (lv_at hl 3 rfl) ?_
          obtain ⟨S_30, h_31, hf⟩ := sm_b1_e hf
          refine va_callv (va_runV (As := [.int x_11]) (rest := []) ⟨hx, hb, hml, hown, hts⟩ (wX9_lays l g ad S_14 x_11 S_30 h_31) (cwV 1 hts (lw_V q1100 q1102 qs40 q70 q1103) rfl rfl rfl (by decide +kernel) ⟨Nat.le_of_ble_eq_true rfl, Nat.le_of_ble_eq_true rfl⟩) (sm_pe hE hP hD (va_recv hK hP (ci := 9) (q0 := 0) rfl rfl)) rfl rfl hl.1 rfl (lv_room (Nat.le_of_ble_eq_true rfl)) dX9_most_55 ⟨Nat.le_of_ble_eq_true rfl, Nat.le_of_ble_eq_true rfl⟩) hS (fun _ _ h => h) (fun _ h => h) (fun u t H locs ht hvm er_32 hB hz hk hS => ?_)
          obtain ⟨hP, hD⟩ := hB
          rw [ht] at hP
          refine lv_aload_n hx hb dX9_most_58 rfl (lv_at hl 0 rfl) ?_
          obtain ⟨S_34, r_36, h_35, hf⟩ := sm_b2_e hf
          refine va_calli (va_runV (As := []) (rest := []) ⟨hx, hb, hml, hown, hts⟩ (wX9_goes l g ad S_30  S_34 r_36 h_35) (cwV 0 hts (lw_V q1104 q1106 qs41 q70 q1107) rfl rfl rfl (by decide +kernel) ⟨Nat.le_of_ble_eq_true rfl, Nat.le_of_ble_eq_true rfl⟩) (sm_pe hE hP hD (va_recv hK hP (ci := 9) (q0 := 0) rfl rfl)) rfl rfl hl.1 rfl (lv_room (Nat.le_of_ble_eq_true rfl)) dX9_most_59 ⟨Nat.le_of_ble_eq_true rfl, Nat.le_of_ble_eq_true rfl⟩) hS (fun _ _ h => h) (fun _ h => h) (fun r_38 u t H locs ht hvm er_37 hB hz hk hS => ?_)
          have er_37 := er_37.symm
          subst er_37
          obtain ⟨hP, hD⟩ := hB
          rw [ht] at hP
          refine lv_pop hx hb dX9_most_62 rfl ?_
          refine lv_aload_n hx hb dX9_most_63 rfl (lv_at hl 0 rfl) ?_
          refine lv_iload_n hx hb dX9_most_64 rfl (lv_at hl 1 rfl) ?_
          obtain ⟨r_39, h_40, hf⟩ := sm_b1_e hf
          refine vp_callSi (W.runV (As := [.int a1]) (rest := []) ⟨hx, hb, hml, hown, hts⟩ (wX9_sailedBy l g ad S_34 a1 r_39 h_40) (cwV 1 hts (lw_V q1112 q1114 qs43 q70 q1115) rfl rfl rfl (by decide +kernel) ⟨Nat.le_of_ble_eq_true rfl, Nat.le_of_ble_eq_true rfl⟩) (sm_pv hE hP (va_recv hK hP (ci := 9) (q0 := 0) rfl rfl)) rfl rfl hl.1 rfl (lv_room (Nat.le_of_ble_eq_true rfl)) dX9_most_65 ⟨Nat.le_of_ble_eq_true rfl, Nat.le_of_ble_eq_true rfl⟩) (fun r_42 er_41 => ?_)
          have er_41 := er_41.symm
          subst er_41
          refine lv_iload hx hb dX9_most_68 (lv_at hl 4 rfl) ?_
          obtain ⟨x_43, hf, hf0⟩ := sm_b1_e hf
          suffices hj_44 : ∀ (ls : Array Slot), lv_has ls 6 [(0, .ref (ad 0)), (1, .int a1), (2, .int a2), (5, .int x_11), (4, .int x_12), (3, .int x_13)] → W p l e rX9_most s m args below meth c H locs 0 0 Q (F0 m 79 ls [.int x_43]) from by
            refine lv_icmp_le (tgt := 78) hx hb dX9_most_70 (by decide) (fun c_45 => ?_) (fun c_45 => ?_)
            · have hf := (if_pos c_45).symm.trans hf
              refine lv_iload_n hx hb dX9_most_78 rfl (lv_at hl 5 rfl) ?_
              cases hf
              exact hj_44 _ (lv_sub hl [0, 1, 2, 3, 4, 5] rfl)
            · have hf := (if_neg c_45).symm.trans hf
              refine lv_iload hx hb dX9_most_73 (lv_at hl 3 rfl) ?_
              refine lv_goto (tgt := 79) hx hb dX9_most_75 (by decide) ?_
              cases hf
              exact hj_44 _ (lv_sub hl [0, 1, 2, 3, 4, 5] rfl)
          intro ls hl
          have hf := hf0
          refine lv_istore_n (lv' := [(3, .int x_43), (0, .ref (ad 0)), (1, .int a1), (2, .int a2), (5, .int x_11), (4, .int x_12)]) hx hb dX9_most_79 rfl hl (by decide) rfl (fun ls hl => ?_)
          refine lv_aload_n hx hb dX9_most_80 rfl (lv_at hl 1 rfl) ?_
          refine lv_iload_n hx hb dX9_most_81 rfl (lv_at hl 2 rfl) ?_
          obtain ⟨r_46, h_47, hf⟩ := sm_b1_e hf
          refine vp_callSi (W.runV (As := [.int a1]) (rest := []) ⟨hx, hb, hml, hown, hts⟩ (wX9_sailedBy l g ad S_34 a1 r_46 h_47) (cwV 1 hts (lw_V q1112 q1114 qs43 q70 q1115) rfl rfl rfl (by decide +kernel) ⟨Nat.le_of_ble_eq_true rfl, Nat.le_of_ble_eq_true rfl⟩) (sm_pv hE hP (va_recv hK hP (ci := 9) (q0 := 0) rfl rfl)) rfl rfl hl.1 rfl (lv_room (Nat.le_of_ble_eq_true rfl)) dX9_most_82 ⟨Nat.le_of_ble_eq_true rfl, Nat.le_of_ble_eq_true rfl⟩) (fun r_49 er_48 => ?_)
          have er_48 := er_48.symm
          subst er_48
          refine lv_iload hx hb dX9_most_85 (lv_at hl 5 rfl) ?_
          refine lv_icmp_le (tgt := 98) hx hb dX9_most_87 (by decide) (fun c_50 => ?_) (fun c_50 => ?_)
          · have hf := (if_pos c_50).symm.trans hf
            refine lv_iload hx hb dX9_most_98 (lv_at hl 5 rfl) ?_
            refine lv_istore (lv' := [(4, .int x_12), (3, .int x_43), (0, .ref (ad 0)), (1, .int a1), (2, .int a2), (5, .int x_11)]) hx hb dX9_most_100 hl (by decide) rfl (fun ls hl => ?_)
            refine lv_iinc (v := x_11 + 1) (lv' := [(5, .int (x_11 + 1)), (4, .int x_12), (3, .int x_43), (0, .ref (ad 0)), (1, .int a1), (2, .int a2)]) hx hb dX9_most_102 hl (k := 5) rfl rfl (by decide) rfl (fun ls hl => ?_)
            refine lv_goto (tgt := 35) hx hb dX9_most_105 (by decide) ?_
            cases hf
            exact ih_15 _ _ _ _ _ _ _ _ _ _ _ hc_19 hP hD hS (lv_sub hl [3, 4, 5, 0, 1, 2] rfl) kx_16
          · have hf := (if_neg c_50).symm.trans hf
            refine lv_aload_n hx hb dX9_most_90 rfl (lv_at hl 1 rfl) ?_
            refine lv_iload_n hx hb dX9_most_91 rfl (lv_at hl 2 rfl) ?_
            obtain ⟨r_51, h_52, hf⟩ := sm_b1_e hf
            refine vp_callSi (W.runV (As := [.int a1]) (rest := []) ⟨hx, hb, hml, hown, hts⟩ (wX9_sailedBy l g ad S_34 a1 r_51 h_52) (cwV 1 hts (lw_V q1112 q1114 qs43 q70 q1115) rfl rfl rfl (by decide +kernel) ⟨Nat.le_of_ble_eq_true rfl, Nat.le_of_ble_eq_true rfl⟩) (sm_pv hE hP (va_recv hK hP (ci := 9) (q0 := 0) rfl rfl)) rfl rfl hl.1 rfl (lv_room (Nat.le_of_ble_eq_true rfl)) dX9_most_92 ⟨Nat.le_of_ble_eq_true rfl, Nat.le_of_ble_eq_true rfl⟩) (fun r_54 er_53 => ?_)
            have er_53 := er_53.symm
            subst er_53
            refine lv_goto (tgt := 100) hx hb dX9_most_95 (by decide) ?_
            refine lv_istore (lv' := [(4, .int r_51), (3, .int x_43), (0, .ref (ad 0)), (1, .int a1), (2, .int a2), (5, .int x_11)]) hx hb dX9_most_100 hl (by decide) rfl (fun ls hl => ?_)
            refine lv_iinc (v := x_11 + 1) (lv' := [(5, .int (x_11 + 1)), (4, .int r_51), (3, .int x_43), (0, .ref (ad 0)), (1, .int a1), (2, .int a2)]) hx hb dX9_most_102 hl (k := 5) rfl rfl (by decide) rfl (fun ls hl => ?_)
            refine lv_goto (tgt := 35) hx hb dX9_most_105 (by decide) ?_
            cases hf
            exact ih_15 _ _ _ _ _ _ _ _ _ _ _ hc_19 hP hD hS (lv_sub hl [3, 4, 5, 0, 1, 2] rfl) kx_16
    obtain ⟨x_56, x_57, x_58, S_59, ho, hf⟩ := sm_b4_e hf
    refine L_20 FU 0 (-1) 0 S x_56 x_57 x_58 S_59 s.heap [] ls ho hP hD hS (lv_sub hl [3, 4, 5, 0, 1, 2] rfl) ?_
    intro H locs ls hP hD hS hl
    refine lv_aload_n hx hb dX9_most_108 rfl (lv_at hl 0 rfl) ?_
    refine lv_iload_n hx hb dX9_most_109 rfl (lv_at hl 5 rfl) ?_
    obtain ⟨S_60, h_61, hf⟩ := sm_b1_e hf
    refine va_callv (va_runV (As := [.int x_58]) (rest := []) ⟨hx, hb, hml, hown, hts⟩ (wX9_lays l g ad S_59 x_58 S_60 h_61) (cwV 1 hts (lw_V q1100 q1102 qs40 q70 q1103) rfl rfl rfl (by decide +kernel) ⟨Nat.le_of_ble_eq_true rfl, Nat.le_of_ble_eq_true rfl⟩) (sm_pe hE hP hD (va_recv hK hP (ci := 9) (q0 := 0) rfl rfl)) rfl rfl hl.1 rfl (lv_room (Nat.le_of_ble_eq_true rfl)) dX9_most_110 ⟨Nat.le_of_ble_eq_true rfl, Nat.le_of_ble_eq_true rfl⟩) hS (fun _ _ h => h) (fun _ h => h) (fun u t H locs ht hvm er_62 hB hz hk hS => ?_)
    obtain ⟨hP, hD⟩ := hB
    rw [ht] at hP
    refine lv_iload_n hx hb dX9_most_113 rfl (lv_at hl 2 rfl) ?_
    refine lv_bipush (v := (-9)) hx hb dX9_most_114 (by decide) ?_
    refine lv_icmp_ne (tgt := 124) hx hb dX9_most_116 (by decide) (fun c_64 => ?_) (fun c_64 => ?_)
    · have hf := (if_neg c_64).symm.trans hf
      refine lv_aload_n hx hb dX9_most_124 rfl (lv_at hl 0 rfl) ?_
      refine va_get (D := (g.1, g.2.1)) (ci := 9) (v := .ref (ad 30)) (C := RX9) (T := TX9) (N := 39) hx hb hts in_X9 hown hK hP 0 rfl rfl 30 (by decide) (hts _ q886) (fun _ h9 => h9) rfl dX9_most_125 ?_
      refine lv_iload_n hx hb dX9_most_128 rfl (lv_at hl 2 rfl) ?_
      obtain ⟨hg, hf⟩ := sm_gd_e hf
      refine va_iald hx hb hK hP 13 0 rfl rfl (sm_in hg) dX9_most_129 ?_
      have hf := Option.some.inj hf
      rw [← hQ]
      have hf := Prod.mk.inj hf
      exact W.iret (v := S_60.2.1 30 a2.toNatClampNeg) hx hb hr (fun t ht hW => ⟨⟨_, (), rfl, hf.2, by rw [ht, ← hf.1]; exact hP, by rw [← hf.1]; exact hD⟩, hS.F ht⟩) hS.2.2 dX9_most_130
    · have hf := (if_pos c_64).symm.trans hf
      refine lv_iload hx hb dX9_most_119 (lv_at hl 4 rfl) ?_
      refine lv_goto (tgt := 130) hx hb dX9_most_121 (by decide) ?_
      have hf := Option.some.inj hf
      rw [← hQ]
      have hf := Prod.mk.inj hf
      exact W.iret (v := x_57) hx hb hr (fun t ht hW => ⟨⟨_, (), rfl, hf.2, by rw [ht, ← hf.1]; exact hP, by rw [← hf.1]; exact hD⟩, hS.F ht⟩) hS.2.2 dX9_most_130
abbrev rX9_plan : Room := { frames := 2, cells := 0, slots := 0, locals := 50 }
set_option maxHeartbeats 4000000 in
theorem wX9_plan (l : Launch) (g : GG) (ad : Nat → Nat) (S : MS) (a1 : Int32) (a2 : Int32) (Sf : MS) (rf : Int32) (hf : fX9_plan S a1 a2 = some (Sf, rf)) : Met l yX9_plan (ws_ yX9_plan cX9_plan 5 (some .int)) rX9_plan (va_Pc [.ref (ad 0), .int a1, .int a2] (fun U => PP g (WM g ad S) U.heap ∧ EV g U ∧ va_D (AM ad) (WM g ad S))) (va_Qi (fun y (_ : Unit) => y = rf) (fun _ t => PP g (WM g ad Sf) t.heap ∧ va_D (AM ad) (WM g ad Sf)) (AM ad)) 0 0 (AM ad) := by
  refine sm_st (by decide) ?_
  intro p e s m args below meth c hx hb hr hlocks hml hown hnm hts hv
  obtain ⟨hargs, hP, hE, hD⟩ := hv
  obtain ⟨hK, hN⟩ := id hE
  have hS : va_S (AM ad) s.heap s.heap [] := va_S.rf
  have hown : s.vm.findClass RX9 = some m.cls := hown
  refine sm_en _ (Nat.le_of_ble_eq_true rfl) hargs (fun ls hl => ?_)
  have hl : lv_has ls 5 [(0, .ref (ad 0)), (1, .int a1), (2, .int a2)] := hl
  generalize hQ : MQ below _ args s _ _ _ = Q
  unfold fX9_plan at hf
  refine lv_iload_n hx hb dX9_plan_0 rfl (lv_at hl 2 rfl) ?_
  refine lv_bipush (v := (-9)) hx hb dX9_plan_1 (by decide) ?_
  obtain ⟨q_7, hf, hq_2⟩ := sm_r_e hf
  suffices hj_1 : ∀ (ls : Array Slot), q_7 = Sum.inl () → lv_has ls 5 [(0, .ref (ad 0)), (1, .int a1), (2, .int a2)] → W p l e rX9_plan s m args below meth c s.heap [] 0 0 Q (F0 m 14 ls []) from by
    refine lv_icmp_eq (tgt := 14) hx hb dX9_plan_3 (by decide) (fun c_3 => ?_) (fun c_3 => ?_)
    · have hf := (if_pos c_3).symm.trans hf
      cases hf
      exact hj_1 _ rfl (lv_sub hl [0, 1, 2] rfl)
    · have hf := (if_neg c_3).symm.trans hf
      refine lv_aload_n hx hb dX9_plan_6 rfl (lv_at hl 0 rfl) ?_
      refine lv_iload_n hx hb dX9_plan_7 rfl (lv_at hl 2 rfl) ?_
      refine vp_callSi (W.runV (As := [.int a2]) (rest := []) ⟨hx, hb, hml, hown, hts⟩ (wX9_isTraveller l g ad S a2 (fX9_isTraveller S a2) rfl) (cwV 1 hts (lw_V q1029 q1031 qs30 q70 q1032) rfl rfl rfl (by decide +kernel) ⟨Nat.le_of_ble_eq_true rfl, Nat.le_of_ble_eq_true rfl⟩) (sm_pv hE hP (va_recv hK hP (ci := 9) (q0 := 0) rfl rfl)) rfl rfl hl.1 rfl (lv_room (Nat.le_of_ble_eq_true rfl)) dX9_plan_8 ⟨Nat.le_of_ble_eq_true rfl, Nat.le_of_ble_eq_true rfl⟩) (fun r_5 er_4 => ?_)
      have er_4 := er_4.symm
      subst er_4
      refine lv_if_eq (tgt := 34) hx hb dX9_plan_11 (by decide) (fun c_6 => ?_) (fun c_6 => ?_)
      · have hf := (if_pos c_6).symm.trans hf
        refine lv_iconst (v := (-1)) hx hb dX9_plan_34 (by decide) ?_
        cases hf
        have hf := hq_2
        dsimp only [Sum.elim_inr] at hf
        have hf := Option.some.inj hf
        rw [← hQ]
        have hf := Prod.mk.inj hf
        exact W.iret (v := (-1)) hx hb hr (fun t ht hW => ⟨⟨_, (), rfl, hf.2, by rw [ht, ← hf.1]; exact hP, by rw [← hf.1]; exact hD⟩, hS.F ht⟩) hS.2.2 dX9_plan_35
      · have hf := (if_neg c_6).symm.trans hf
        cases hf
        exact hj_1 _ rfl (lv_sub hl [0, 1, 2] rfl)
  intro ls eq_ hl
  subst eq_
  have hf := hq_2
  dsimp only [Sum.elim_inl, sm_u1] at hf
  refine lv_iload_n hx hb dX9_plan_14 rfl (lv_at hl 1 rfl) ?_
  refine lv_iconst (v := 0) hx hb dX9_plan_15 (by decide) ?_
  refine lv_aload_n hx hb dX9_plan_16 rfl (lv_at hl 0 rfl) ?_
  refine lv_bipush (v := 10) hx hb dX9_plan_17 (by decide) ?_
  refine lv_aload_n hx hb dX9_plan_19 rfl (lv_at hl 0 rfl) ?_
  refine va_get (D := (g.1, g.2.1)) (ci := 9) (v := .int (S.1 3)) (C := RX9) (T := TX9) (N := 39) hx hb hts in_X9 hown hK hP 0 rfl rfl 3 (by decide) (hts _ q859) (fun _ h9 => h9) rfl dX9_plan_20 ?_
  obtain ⟨r_8, h_9, hf⟩ := sm_b1_e hf
  refine vp_callSi (W.runV (As := [.int 10, .int (S.1 3)]) (rest := [.int 0, .int a1]) ⟨hx, hb, hml, hown, hts⟩ (wX9_power l g ad S 10 (S.1 3) r_8 h_9) (cwV 2 hts (lw_V q1096 q1098 qs39 q70 q1099) rfl rfl rfl (by decide +kernel) ⟨Nat.le_of_ble_eq_true rfl, Nat.le_of_ble_eq_true rfl⟩) (sm_pv hE hP (va_recv hK hP (ci := 9) (q0 := 0) rfl rfl)) rfl rfl hl.1 rfl (lv_room (Nat.le_of_ble_eq_true rfl)) dX9_plan_23 ⟨Nat.le_of_ble_eq_true rfl, Nat.le_of_ble_eq_true rfl⟩) (fun r_11 er_10 => ?_)
  have er_10 := er_10.symm
  subst er_10
  refine lv_iconst (v := 1) hx hb dX9_plan_26 (by decide) ?_
  refine lv_isub hx hb dX9_plan_27 ?_
  refine vp_callSi (W.runS (As := [.int a1, .int 0, .int (r_8 - 1)]) (rest := []) ⟨hx, hb, hml, hown, hts⟩ (wX9_in l a1 0 (r_8 - 1) (fX9_in a1 0 (r_8 - 1)) rfl) (va_cwS 3 hts (lw_S q979 q980 q70 q981) rfl rfl rfl (by decide +kernel) ⟨Nat.le_of_ble_eq_true rfl, Nat.le_of_ble_eq_true rfl⟩) (sm_ps) rfl rfl hl.1 rfl (lv_room (Nat.le_of_ble_eq_true rfl)) dX9_plan_28 ⟨Nat.le_of_ble_eq_true rfl, Nat.le_of_ble_eq_true rfl⟩) (fun r_13 er_12 => ?_)
  have er_12 := er_12.symm
  subst er_12
  refine lv_if_ne (tgt := 36) hx hb dX9_plan_31 (by decide) (fun c_14 => ?_) (fun c_14 => ?_)
  · have hf := (if_neg c_14).symm.trans hf
    refine lv_iload_n hx hb dX9_plan_36 rfl (lv_at hl 1 rfl) ?_
    refine lv_istore_n (lv' := [(3, .int a1), (0, .ref (ad 0)), (1, .int a1), (2, .int a2)]) hx hb dX9_plan_37 rfl hl (by decide) rfl (fun ls hl => ?_)
    refine lv_iconst (v := 0) hx hb dX9_plan_38 (by decide) ?_
    refine lv_istore (lv' := [(4, .int 0), (3, .int a1), (0, .ref (ad 0)), (1, .int a1), (2, .int a2)]) hx hb dX9_plan_39 hl (by decide) rfl (fun ls hl => ?_)
    have L_23 : ∀ (n : Nat) (x_15 : Int32) (x_16 : Int32) (S_17 : MS) (o_21 : ((Int32 × Int32 × MS) ⊕ (MS × Int32))) (H : Heap) (locs : List Loc) (ls : Array Slot), sm_lp (fun q => fX9_plan_41 q.1 q.2.1 q.2.2) n (x_15, x_16, S_17) = some o_21 → PP g (WM g ad S_17) H → va_D (AM ad) (WM g ad S_17) → va_S (AM ad) s.heap H locs → lv_has ls 5 [(0, .ref (ad 0)), (1, .int a1), (2, .int a2), (4, .int x_15), (3, .int x_16)] → (∀ (x_15 : Int32) (x_16 : Int32) (S_17 : MS) (H : Heap) (locs : List Loc) (ls : Array Slot), o_21 = Sum.inl (x_15, x_16, S_17) → PP g (WM g ad S_17) H → va_D (AM ad) (WM g ad S_17) → va_S (AM ad) s.heap H locs → lv_has ls 5 [(0, .ref (ad 0)), (1, .int a1), (2, .int a2), (4, .int x_15), (3, .int x_16)] → W p l e rX9_plan s m args below meth c H locs 0 0 Q (F0 m 88 ls [])) → (∀ rv : (MS × Int32), o_21 = Sum.inr rv → rv = (Sf, rf)) → W p l e rX9_plan s m args below meth c H locs 0 0 Q (F0 m 41 ls []) := by
      intro n
      induction n with
      | zero =>
        intro _ _ _ _ _ _ _ hf
        cases hf
      | succ n ih_18 =>
        intro x_15 x_16 S_17 o_21 H locs ls hf hP hD hS hl kx_19 kr_20
        obtain ⟨q, hf, hc_22⟩ := sm_bnd hf
        have hf : fX9_plan_41 x_15 x_16 S_17 = some q := hf
        unfold fX9_plan_41 at hf
        refine lv_iload hx hb dX9_plan_41 (lv_at hl 3 rfl) ?_
        refine lv_aload_n hx hb dX9_plan_43 rfl (lv_at hl 0 rfl) ?_
        refine va_get (D := (g.1, g.2.1)) (ci := 9) (v := .int (S_17.1 3)) (C := RX9) (T := TX9) (N := 39) hx hb hts in_X9 hown hK hP 0 rfl rfl 3 (by decide) (hts _ q859) (fun _ h9 => h9) rfl dX9_plan_44 ?_
        refine lv_icmp_ge (tgt := 88) hx hb dX9_plan_47 (by decide) (fun c_27 => ?_) (fun c_27 => ?_)
        · have hf := (if_pos c_27).symm.trans hf
          cases hf
          exact kx_19 _ _ _ _ _ _ (Option.some.inj hc_22).symm hP hD hS (lv_sub hl [0, 1, 2, 3, 4] rfl)
        · have hf := (if_neg c_27).symm.trans hf
          refine lv_aload_n hx hb dX9_plan_50 rfl (lv_at hl 0 rfl) ?_
          refine va_get (D := (g.1, g.2.1)) (ci := 9) (v := .ref (ad 30)) (C := RX9) (T := TX9) (N := 39) hx hb hts in_X9 hown hK hP 0 rfl rfl 30 (by decide) (hts _ q886) (fun _ h9 => h9) rfl dX9_plan_51 ?_
          refine lv_iload hx hb dX9_plan_54 (lv_at hl 3 rfl) ?_
          refine lv_iload_n hx hb dX9_plan_56 rfl (lv_at hl 4 rfl) ?_
          refine lv_bipush (v := 10) hx hb dX9_plan_57 (by decide) ?_
          refine lv_irem hx hb dX9_plan_59 (by decide) ?_
          obtain ⟨hg, hf⟩ := sm_gd_e hf
          refine va_iast (i := x_15) (x := x_16 - x_16 / 10 * 10) hx hb hK hP hD hS 13 0 rfl rfl (sm_in hg) dX9_plan_60 (fun H locs hP hD hS => ?_)
          obtain ⟨S_28, eS_28, hf⟩ := sm_lt_e hf
          have hP : PP g (WM g ad S_28) H := by rw [eS_28]; exact pmr30 hP
          have hD : va_D (AM ad) (WM g ad S_28) := by rw [eS_28]; exact dmr30 hD
          refine lv_aload_n hx hb dX9_plan_61 rfl (lv_at hl 0 rfl) ?_
          refine lv_aload_n hx hb dX9_plan_62 rfl (lv_at hl 0 rfl) ?_
          refine va_get (D := (g.1, g.2.1)) (ci := 9) (v := .ref (ad 30)) (C := RX9) (T := TX9) (N := 39) hx hb hts in_X9 hown hK hP 0 rfl rfl 30 (by decide) (hts _ q886) (fun _ h9 => h9) rfl dX9_plan_63 ?_
          refine lv_iload hx hb dX9_plan_66 (lv_at hl 3 rfl) ?_
          obtain ⟨hg, hf⟩ := sm_gd_e hf
          refine va_iald hx hb hK hP 13 0 rfl rfl (sm_in hg) dX9_plan_68 ?_
          refine vp_callSi (W.runV (As := [.int (S_28.2.1 30 x_15.toNatClampNeg)]) (rest := []) ⟨hx, hb, hml, hown, hts⟩ (wX9_isRow l g ad S_28 (S_28.2.1 30 x_15.toNatClampNeg) (fX9_isRow S_28 (S_28.2.1 30 x_15.toNatClampNeg)) rfl) (cwV 1 hts (lw_V q1065 q1067 qs36 q70 q1068) rfl rfl rfl (by decide +kernel) ⟨Nat.le_of_ble_eq_true rfl, Nat.le_of_ble_eq_true rfl⟩) (sm_pv hE hP (va_recv hK hP (ci := 9) (q0 := 0) rfl rfl)) rfl rfl hl.1 rfl (lv_room (Nat.le_of_ble_eq_true rfl)) dX9_plan_69 ⟨Nat.le_of_ble_eq_true rfl, Nat.le_of_ble_eq_true rfl⟩) (fun r_30 er_29 => ?_)
          have er_29 := er_29.symm
          subst er_29
          refine lv_if_ne (tgt := 77) hx hb dX9_plan_72 (by decide) (fun c_31 => ?_) (fun c_31 => ?_)
          · have hf := (if_neg c_31).symm.trans hf
            refine lv_iload_n hx hb dX9_plan_77 rfl (lv_at hl 4 rfl) ?_
            refine lv_bipush (v := 10) hx hb dX9_plan_78 (by decide) ?_
            refine lv_idiv hx hb dX9_plan_80 (by decide) ?_
            refine lv_istore_n (lv' := [(3, .int (x_16 / 10)), (0, .ref (ad 0)), (1, .int a1), (2, .int a2), (4, .int x_15)]) hx hb dX9_plan_81 rfl hl (by decide) rfl (fun ls hl => ?_)
            refine lv_iinc (v := x_15 + 1) (lv' := [(4, .int (x_15 + 1)), (3, .int (x_16 / 10)), (0, .ref (ad 0)), (1, .int a1), (2, .int a2)]) hx hb dX9_plan_82 hl (k := 4) rfl rfl (by decide) rfl (fun ls hl => ?_)
            refine lv_goto (tgt := 41) hx hb dX9_plan_85 (by decide) ?_
            cases hf
            exact ih_18 _ _ _ _ _ _ _ hc_22 hP hD hS (lv_sub hl [2, 3, 4, 0, 1] rfl) kx_19 kr_20
          · have hf := (if_pos c_31).symm.trans hf
            refine lv_iconst (v := (-1)) hx hb dX9_plan_75 (by decide) ?_
            cases hf
            have hf := kr_20 _ (Option.some.inj hc_22).symm
            rw [← hQ]
            have hf := Prod.mk.inj hf
            exact W.iret (v := (-1)) hx hb hr (fun t ht hW => ⟨⟨_, (), rfl, hf.2, by rw [ht, ← hf.1]; exact hP, by rw [← hf.1]; exact hD⟩, hS.F ht⟩) hS.2.2 dX9_plan_76
    obtain ⟨o_32, ho, hf⟩ := sm_r_e hf
    refine L_23 FU 0 a1 S o_32 s.heap [] ls ho hP hD hS (lv_sub hl [2, 3, 4, 0, 1] rfl) ?_ ?_
    · intro x_33 x_34 S_35 H locs ls eo hP hD hS hl
      subst eo
      dsimp only [Sum.elim_inl, sm_u3] at hf
      refine lv_aload_n hx hb dX9_plan_88 rfl (lv_at hl 0 rfl) ?_
      obtain ⟨S_36, r_38, h_37, hf⟩ := sm_b2_e hf
      refine va_calli (va_runV (As := []) (rest := []) ⟨hx, hb, hml, hown, hts⟩ (wX9_goes l g ad S_35  S_36 r_38 h_37) (cwV 0 hts (lw_V q1104 q1106 qs41 q70 q1107) rfl rfl rfl (by decide +kernel) ⟨Nat.le_of_ble_eq_true rfl, Nat.le_of_ble_eq_true rfl⟩) (sm_pe hE hP hD (va_recv hK hP (ci := 9) (q0 := 0) rfl rfl)) rfl rfl hl.1 rfl (lv_room (Nat.le_of_ble_eq_true rfl)) dX9_plan_89 ⟨Nat.le_of_ble_eq_true rfl, Nat.le_of_ble_eq_true rfl⟩) hS (fun _ _ h => h) (fun _ h => h) (fun r_40 u t H locs ht hvm er_39 hB hz hk hS => ?_)
      have er_39 := er_39.symm
      subst er_39
      obtain ⟨hP, hD⟩ := hB
      rw [ht] at hP
      refine lv_istore (lv' := [(4, .int r_38), (0, .ref (ad 0)), (1, .int a1), (2, .int a2), (3, .int x_34)]) hx hb dX9_plan_92 hl (by decide) rfl (fun ls hl => ?_)
      refine lv_iload_n hx hb dX9_plan_94 rfl (lv_at hl 3 rfl) ?_
      refine lv_bipush (v := (-9)) hx hb dX9_plan_95 (by decide) ?_
      refine lv_icmp_ne (tgt := 105) hx hb dX9_plan_97 (by decide) (fun c_41 => ?_) (fun c_41 => ?_)
      · have hf := (if_neg c_41).symm.trans hf
        refine lv_aload_n hx hb dX9_plan_105 rfl (lv_at hl 1 rfl) ?_
        refine va_get (D := (g.1, g.2.1)) (ci := 9) (v := .ref (ad 33)) (C := RX9) (T := TX9) (N := 39) hx hb hts in_X9 hown hK hP 0 rfl rfl 33 (by decide) (hts _ q889) (fun _ h9 => h9) rfl dX9_plan_106 ?_
        refine lv_iload_n hx hb dX9_plan_109 rfl (lv_at hl 3 rfl) ?_
        obtain ⟨hg, hf⟩ := sm_gd_e hf
        refine va_iald hx hb hK hP 16 0 rfl rfl (sm_in hg) dX9_plan_110 ?_
        have hf := Option.some.inj hf
        rw [← hQ]
        have hf := Prod.mk.inj hf
        exact W.iret (v := S_36.2.1 33 a2.toNatClampNeg) hx hb hr (fun t ht hW => ⟨⟨_, (), rfl, hf.2, by rw [ht, ← hf.1]; exact hP, by rw [← hf.1]; exact hD⟩, hS.F ht⟩) hS.2.2 dX9_plan_111
      · have hf := (if_pos c_41).symm.trans hf
        refine lv_iload hx hb dX9_plan_100 (lv_at hl 0 rfl) ?_
        refine lv_goto (tgt := 111) hx hb dX9_plan_102 (by decide) ?_
        have hf := Option.some.inj hf
        rw [← hQ]
        have hf := Prod.mk.inj hf
        exact W.iret (v := r_38) hx hb hr (fun t ht hW => ⟨⟨_, (), rfl, hf.2, by rw [ht, ← hf.1]; exact hP, by rw [← hf.1]; exact hD⟩, hS.F ht⟩) hS.2.2 dX9_plan_111
    · intro rv_42 eo
      subst eo
      have hf : some rv_42 = _ := hf
      have hf := Option.some.inj hf
      exact hf
  · have hf := (if_pos c_14).symm.trans hf
    refine lv_iconst (v := (-1)) hx hb dX9_plan_34 (by decide) ?_
    have hf := Option.some.inj hf
    rw [← hQ]
    have hf := Prod.mk.inj hf
    exact W.iret (v := (-1)) hx hb hr (fun t ht hW => ⟨⟨_, (), rfl, hf.2, by rw [ht, ← hf.1]; exact hP, by rw [← hf.1]; exact hD⟩, hS.F ht⟩) hS.2.2 dX9_plan_35
