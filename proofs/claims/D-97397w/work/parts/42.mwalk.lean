/-! SmokedLettersModel, walked: printed by gen/model.py -/
set_option maxRecDepth 100000
abbrev rX9_readInto_12 : Room := { frames := 3, cells := 0, slots := 0, locals := 65 }
set_option maxHeartbeats 4000000 in
theorem wX9_readInto_12 (l : Launch) (g : GG) (ad : Nat → Nat) (S : MS) (a2 : Int32) (a3 : Int32) (a4 : Int32) (Sf : MS) (rf : Int32) (hf : fX9_readInto_12 S a2 a3 a4 = some (Sf, rf)) : Met l yX9_readInto (ws_ yX9_readInto cX9_readInto 6 (some .int)) rX9_readInto_12 (va_Pc [.ref (ad 0), .ref (ad 28), .int a2, .int a3, .int a4] (fun U => PP g (WM g ad S) U.heap ∧ EV g U ∧ va_D (AM ad) (WM g ad S))) (va_Qi (fun y (_ : Unit) => y = rf) (fun _ t => PP g (WM g ad Sf) t.heap ∧ va_D (AM ad) (WM g ad Sf)) (AM ad)) 0 0 (AM ad) := by
  refine sm_st (by decide) ?_
  intro p e s m args below meth c hx hb hr hlocks hml hown hnm hts hv
  obtain ⟨hargs, hP, hE, hD⟩ := hv
  obtain ⟨hK, hN⟩ := id hE
  have hS : va_S (AM ad) s.heap s.heap [] := va_S.rf
  have hown : s.vm.findClass RX9 = some m.cls := hown
  refine sm_en _ (Nat.le_of_ble_eq_true rfl) hargs (fun ls hl => ?_)
  have hl : lv_has ls 6 [(0, .ref (ad 0)), (1, .ref (ad 28)), (2, .int a2), (3, .int a3), (4, .int a4)] := hl
  generalize hQ : MQ below _ args s _ _ _ = Q
  unfold fX9_readInto_12 at hf
  refine lv_aload_n hx hb dX9_readInto_0 rfl (lv_at hl 0 rfl) ?_
  refine va_get (D := (g.1, g.2.1)) (ci := 9) (v := .int (S.1 22)) (C := RX9) (T := TX9) (N := 39) hx hb hts in_X9 hown hK hP 0 rfl rfl 22 (by decide) (hts _ q878) (fun _ h9 => h9) rfl dX9_readInto_1 ?_
  refine lv_istore (lv' := [(5, .int (S.1 22)), (0, .ref (ad 0)), (1, .ref (ad 28)), (2, .int a2), (3, .int a3), (4, .int a4)]) hx hb dX9_readInto_4 hl (by decide) rfl (fun ls hl => ?_)
  refine lv_aload_n hx hb dX9_readInto_6 rfl (lv_at hl 1 rfl) ?_
  refine lv_aload_n hx hb dX9_readInto_7 rfl (lv_at hl 1 rfl) ?_
  refine va_get (D := (g.1, g.2.1)) (ci := 9) (v := .int (S.1 21)) (C := RX9) (T := TX9) (N := 39) hx hb hts in_X9 hown hK hP 0 rfl rfl 21 (by decide) (hts _ q877) (fun _ h9 => h9) rfl dX9_readInto_8 ?_
  refine lv_iconst (v := 2) hx hb dX9_readInto_11 (by decide) ?_
  obtain ⟨x_1, hf, hf0⟩ := sm_b1_e hf
  suffices hj_2 : ∀ (ls : Array Slot), lv_has ls 6 [(5, .int (S.1 22)), (0, .ref (ad 0)), (1, .ref (ad 28)), (2, .int a2), (3, .int a3), (4, .int a4)] → W p l e rX9_readInto_12 s m args below meth c s.heap [] 0 0 Q (F0 m 31 ls [.int x_1, .ref (ad 0)]) from by
    refine lv_icmp_ne (tgt := 30) hx hb dX9_readInto_12 (by decide) (fun c_3 => ?_) (fun c_3 => ?_)
    · have hf := (if_neg c_3).symm.trans hf
      refine lv_iconst (v := 0) hx hb dX9_readInto_30 (by decide) ?_
      cases hf
      exact hj_2 _ (lv_sub hl [0, 1, 2, 3, 4, 5] rfl)
    · have hf := (if_pos c_3).symm.trans hf
      refine lv_iload hx hb dX9_readInto_15 (lv_at hl 0 rfl) ?_
      refine lv_iload_n hx hb dX9_readInto_17 rfl (lv_at hl 4 rfl) ?_
      refine lv_iload hx hb dX9_readInto_18 (lv_at hl 5 rfl) ?_
      refine vp_callSi (W.runS (As := [.int (S.1 22), .int a3, .int a4]) (rest := [.ref (ad 0)]) ⟨hx, hb, hml, hown, hts⟩ (wX9_in l (S.1 22) a3 a4 (fX9_in (S.1 22) a3 a4) rfl) (va_cwS 3 hts (lw_S q979 q980 q70 q981) rfl rfl rfl (by decide +kernel) ⟨Nat.le_of_ble_eq_true rfl, Nat.le_of_ble_eq_true rfl⟩) (sm_ps) rfl rfl hl.1 rfl (lv_room (Nat.le_of_ble_eq_true rfl)) dX9_readInto_20 ⟨Nat.le_of_ble_eq_true rfl, Nat.le_of_ble_eq_true rfl⟩) (fun r_5 er_4 => ?_)
      have er_4 := er_4.symm
      subst er_4
      refine lv_if_eq (tgt := 30) hx hb dX9_readInto_23 (by decide) (fun c_6 => ?_) (fun c_6 => ?_)
      · have hf := (if_pos c_6).symm.trans hf
        refine lv_iconst (v := 0) hx hb dX9_readInto_30 (by decide) ?_
        cases hf
        exact hj_2 _ (lv_sub hl [0, 1, 2, 3, 4, 5] rfl)
      · have hf := (if_neg c_6).symm.trans hf
        refine lv_iconst (v := 1) hx hb dX9_readInto_26 (by decide) ?_
        refine lv_goto (tgt := 31) hx hb dX9_readInto_27 (by decide) ?_
        cases hf
        exact hj_2 _ (lv_sub hl [0, 1, 2, 3, 4, 5] rfl)
  intro ls hl
  have hf := hf0
  obtain ⟨S_7, h_8, hf⟩ := sm_b1_e hf
  refine va_callv (va_runV (As := [.int x_1]) (rest := []) ⟨hx, hb, hml, hown, hts⟩ (wX9_must l g ad S x_1 S_7 h_8) (cwV 1 hts (lw_V q1009 q1011 qs26 q70 q1012) rfl rfl rfl (by decide +kernel) ⟨Nat.le_of_ble_eq_true rfl, Nat.le_of_ble_eq_true rfl⟩) (sm_pe hE hP hD (va_recv hK hP (ci := 9) (q0 := 0) rfl rfl)) rfl rfl hl.1 rfl (lv_room (Nat.le_of_ble_eq_true rfl)) dX9_readInto_31 ⟨Nat.le_of_ble_eq_true rfl, Nat.le_of_ble_eq_true rfl⟩) hS (fun _ _ h => h) (fun _ h => h) (fun u t H locs ht hvm er_9 hB hz hk hS => ?_)
  obtain ⟨hP, hD⟩ := hB
  rw [ht] at hP
  refine lv_aload_n hx hb dX9_readInto_34 rfl (lv_at hl 1 rfl) ?_
  refine va_get (D := (g.1, g.2.1)) (ci := 9) (v := .int (S_7.1 23)) (C := RX9) (T := TX9) (N := 39) hx hb hts in_X9 hown hK hP 0 rfl rfl 23 (by decide) (hts _ q879) (fun _ h9 => h9) rfl dX9_readInto_35 ?_
  refine lv_if_ne (tgt := 46) hx hb dX9_readInto_38 (by decide) (fun c_11 => ?_) (fun c_11 => ?_)
  · have hf := (if_neg c_11).symm.trans hf
    refine lv_iload hx hb dX9_readInto_46 (lv_at hl 0 rfl) ?_
    have hf := Option.some.inj hf
    rw [← hQ]
    have hf := Prod.mk.inj hf
    exact W.iret (v := S.1 22) hx hb hr (fun t ht hW => ⟨⟨_, (), rfl, hf.2, by rw [ht, ← hf.1]; exact hP, by rw [← hf.1]; exact hD⟩, hS.F ht⟩) hS.2.2 dX9_readInto_48
  · have hf := (if_pos c_11).symm.trans hf
    refine lv_aload_n hx hb dX9_readInto_41 rfl (lv_at hl 2 rfl) ?_
    refine lv_iload_n hx hb dX9_readInto_42 rfl (lv_at hl 3 rfl) ?_
    refine lv_iload hx hb dX9_readInto_43 (lv_at hl 0 rfl) ?_
    obtain ⟨hg, hf⟩ := sm_gd_e hf
    refine va_iast (i := a2) (x := S.1 22) hx hb hK hP hD hS 12 0 rfl rfl (sm_in hg) dX9_readInto_45 (fun H locs hP hD hS => ?_)
    obtain ⟨S_12, eS_12, hf⟩ := sm_lt_e hf
    have hP : PP g (WM g ad S_12) H := by rw [eS_12]; exact pmr28 hP
    have hD : va_D (AM ad) (WM g ad S_12) := by rw [eS_12]; exact dmr28 hD
    refine lv_iload hx hb dX9_readInto_46 (lv_at hl 0 rfl) ?_
    have hf := Option.some.inj hf
    rw [← hQ]
    have hf := Prod.mk.inj hf
    exact W.iret (v := S.1 22) hx hb hr (fun t ht hW => ⟨⟨_, (), rfl, hf.2, by rw [ht, ← hf.1]; exact hP, by rw [← hf.1]; exact hD⟩, hS.F ht⟩) hS.2.2 dX9_readInto_48
abbrev rX9_readInto_10 : Room := { frames := 3, cells := 0, slots := 0, locals := 65 }
set_option maxHeartbeats 4000000 in
theorem wX9_readInto_10 (l : Launch) (g : GG) (ad : Nat → Nat) (S : MS) (a2 : Int32) (a3 : Int32) (a4 : Int32) (Sf : MS) (rf : Int32) (hf : fX9_readInto_10 S a2 a3 a4 = some (Sf, rf)) : Met l yX9_readInto (ws_ yX9_readInto cX9_readInto 6 (some .int)) rX9_readInto_10 (va_Pc [.ref (ad 0), .ref (ad 25), .int a2, .int a3, .int a4] (fun U => PP g (WM g ad S) U.heap ∧ EV g U ∧ va_D (AM ad) (WM g ad S))) (va_Qi (fun y (_ : Unit) => y = rf) (fun _ t => PP g (WM g ad Sf) t.heap ∧ va_D (AM ad) (WM g ad Sf)) (AM ad)) 0 0 (AM ad) := by
  refine sm_st (by decide) ?_
  intro p e s m args below meth c hx hb hr hlocks hml hown hnm hts hv
  obtain ⟨hargs, hP, hE, hD⟩ := hv
  obtain ⟨hK, hN⟩ := id hE
  have hS : va_S (AM ad) s.heap s.heap [] := va_S.rf
  have hown : s.vm.findClass RX9 = some m.cls := hown
  refine sm_en _ (Nat.le_of_ble_eq_true rfl) hargs (fun ls hl => ?_)
  have hl : lv_has ls 6 [(0, .ref (ad 0)), (1, .ref (ad 25)), (2, .int a2), (3, .int a3), (4, .int a4)] := hl
  generalize hQ : MQ below _ args s _ _ _ = Q
  unfold fX9_readInto_10 at hf
  refine lv_aload_n hx hb dX9_readInto_0 rfl (lv_at hl 0 rfl) ?_
  refine va_get (D := (g.1, g.2.1)) (ci := 9) (v := .int (S.1 22)) (C := RX9) (T := TX9) (N := 39) hx hb hts in_X9 hown hK hP 0 rfl rfl 22 (by decide) (hts _ q878) (fun _ h9 => h9) rfl dX9_readInto_1 ?_
  refine lv_istore (lv' := [(5, .int (S.1 22)), (0, .ref (ad 0)), (1, .ref (ad 25)), (2, .int a2), (3, .int a3), (4, .int a4)]) hx hb dX9_readInto_4 hl (by decide) rfl (fun ls hl => ?_)
  refine lv_aload_n hx hb dX9_readInto_6 rfl (lv_at hl 1 rfl) ?_
  refine lv_aload_n hx hb dX9_readInto_7 rfl (lv_at hl 1 rfl) ?_
  refine va_get (D := (g.1, g.2.1)) (ci := 9) (v := .int (S.1 21)) (C := RX9) (T := TX9) (N := 39) hx hb hts in_X9 hown hK hP 0 rfl rfl 21 (by decide) (hts _ q877) (fun _ h9 => h9) rfl dX9_readInto_8 ?_
  refine lv_iconst (v := 2) hx hb dX9_readInto_11 (by decide) ?_
  obtain ⟨x_1, hf, hf0⟩ := sm_b1_e hf
  suffices hj_2 : ∀ (ls : Array Slot), lv_has ls 6 [(5, .int (S.1 22)), (0, .ref (ad 0)), (1, .ref (ad 25)), (2, .int a2), (3, .int a3), (4, .int a4)] → W p l e rX9_readInto_10 s m args below meth c s.heap [] 0 0 Q (F0 m 31 ls [.int x_1, .ref (ad 0)]) from by
    refine lv_icmp_ne (tgt := 30) hx hb dX9_readInto_12 (by decide) (fun c_3 => ?_) (fun c_3 => ?_)
    · have hf := (if_neg c_3).symm.trans hf
      refine lv_iconst (v := 0) hx hb dX9_readInto_30 (by decide) ?_
      cases hf
      exact hj_2 _ (lv_sub hl [0, 1, 2, 3, 4, 5] rfl)
    · have hf := (if_pos c_3).symm.trans hf
      refine lv_iload hx hb dX9_readInto_15 (lv_at hl 0 rfl) ?_
      refine lv_iload_n hx hb dX9_readInto_17 rfl (lv_at hl 4 rfl) ?_
      refine lv_iload hx hb dX9_readInto_18 (lv_at hl 5 rfl) ?_
      refine vp_callSi (W.runS (As := [.int (S.1 22), .int a3, .int a4]) (rest := [.ref (ad 0)]) ⟨hx, hb, hml, hown, hts⟩ (wX9_in l (S.1 22) a3 a4 (fX9_in (S.1 22) a3 a4) rfl) (va_cwS 3 hts (lw_S q979 q980 q70 q981) rfl rfl rfl (by decide +kernel) ⟨Nat.le_of_ble_eq_true rfl, Nat.le_of_ble_eq_true rfl⟩) (sm_ps) rfl rfl hl.1 rfl (lv_room (Nat.le_of_ble_eq_true rfl)) dX9_readInto_20 ⟨Nat.le_of_ble_eq_true rfl, Nat.le_of_ble_eq_true rfl⟩) (fun r_5 er_4 => ?_)
      have er_4 := er_4.symm
      subst er_4
      refine lv_if_eq (tgt := 30) hx hb dX9_readInto_23 (by decide) (fun c_6 => ?_) (fun c_6 => ?_)
      · have hf := (if_pos c_6).symm.trans hf
        refine lv_iconst (v := 0) hx hb dX9_readInto_30 (by decide) ?_
        cases hf
        exact hj_2 _ (lv_sub hl [0, 1, 2, 3, 4, 5] rfl)
      · have hf := (if_neg c_6).symm.trans hf
        refine lv_iconst (v := 1) hx hb dX9_readInto_26 (by decide) ?_
        refine lv_goto (tgt := 31) hx hb dX9_readInto_27 (by decide) ?_
        cases hf
        exact hj_2 _ (lv_sub hl [0, 1, 2, 3, 4, 5] rfl)
  intro ls hl
  have hf := hf0
  obtain ⟨S_7, h_8, hf⟩ := sm_b1_e hf
  refine va_callv (va_runV (As := [.int x_1]) (rest := []) ⟨hx, hb, hml, hown, hts⟩ (wX9_must l g ad S x_1 S_7 h_8) (cwV 1 hts (lw_V q1009 q1011 qs26 q70 q1012) rfl rfl rfl (by decide +kernel) ⟨Nat.le_of_ble_eq_true rfl, Nat.le_of_ble_eq_true rfl⟩) (sm_pe hE hP hD (va_recv hK hP (ci := 9) (q0 := 0) rfl rfl)) rfl rfl hl.1 rfl (lv_room (Nat.le_of_ble_eq_true rfl)) dX9_readInto_31 ⟨Nat.le_of_ble_eq_true rfl, Nat.le_of_ble_eq_true rfl⟩) hS (fun _ _ h => h) (fun _ h => h) (fun u t H locs ht hvm er_9 hB hz hk hS => ?_)
  obtain ⟨hP, hD⟩ := hB
  rw [ht] at hP
  refine lv_aload_n hx hb dX9_readInto_34 rfl (lv_at hl 1 rfl) ?_
  refine va_get (D := (g.1, g.2.1)) (ci := 9) (v := .int (S_7.1 23)) (C := RX9) (T := TX9) (N := 39) hx hb hts in_X9 hown hK hP 0 rfl rfl 23 (by decide) (hts _ q879) (fun _ h9 => h9) rfl dX9_readInto_35 ?_
  refine lv_if_ne (tgt := 46) hx hb dX9_readInto_38 (by decide) (fun c_11 => ?_) (fun c_11 => ?_)
  · have hf := (if_neg c_11).symm.trans hf
    refine lv_iload hx hb dX9_readInto_46 (lv_at hl 0 rfl) ?_
    have hf := Option.some.inj hf
    rw [← hQ]
    have hf := Prod.mk.inj hf
    exact W.iret (v := S.1 22) hx hb hr (fun t ht hW => ⟨⟨_, (), rfl, hf.2, by rw [ht, ← hf.1]; exact hP, by rw [← hf.1]; exact hD⟩, hS.F ht⟩) hS.2.2 dX9_readInto_48
  · have hf := (if_pos c_11).symm.trans hf
    refine lv_aload_n hx hb dX9_readInto_41 rfl (lv_at hl 2 rfl) ?_
    refine lv_iload_n hx hb dX9_readInto_42 rfl (lv_at hl 3 rfl) ?_
    refine lv_iload hx hb dX9_readInto_43 (lv_at hl 0 rfl) ?_
    obtain ⟨hg, hf⟩ := sm_gd_e hf
    refine va_iast (i := a2) (x := S.1 22) hx hb hK hP hD hS 10 0 rfl rfl (sm_in hg) dX9_readInto_45 (fun H locs hP hD hS => ?_)
    obtain ⟨S_12, eS_12, hf⟩ := sm_lt_e hf
    have hP : PP g (WM g ad S_12) H := by rw [eS_12]; exact pmr25 hP
    have hD : va_D (AM ad) (WM g ad S_12) := by rw [eS_12]; exact dmr25 hD
    refine lv_iload hx hb dX9_readInto_46 (lv_at hl 0 rfl) ?_
    have hf := Option.some.inj hf
    rw [← hQ]
    have hf := Prod.mk.inj hf
    exact W.iret (v := S.1 22) hx hb hr (fun t ht hW => ⟨⟨_, (), rfl, hf.2, by rw [ht, ← hf.1]; exact hP, by rw [← hf.1]; exact hD⟩, hS.F ht⟩) hS.2.2 dX9_readInto_48
abbrev rX9_readInto_11 : Room := { frames := 3, cells := 0, slots := 0, locals := 65 }
set_option maxHeartbeats 4000000 in
theorem wX9_readInto_11 (l : Launch) (g : GG) (ad : Nat → Nat) (S : MS) (a2 : Int32) (a3 : Int32) (a4 : Int32) (Sf : MS) (rf : Int32) (hf : fX9_readInto_11 S a2 a3 a4 = some (Sf, rf)) : Met l yX9_readInto (ws_ yX9_readInto cX9_readInto 6 (some .int)) rX9_readInto_11 (va_Pc [.ref (ad 0), .ref (ad 27), .int a2, .int a3, .int a4] (fun U => PP g (WM g ad S) U.heap ∧ EV g U ∧ va_D (AM ad) (WM g ad S))) (va_Qi (fun y (_ : Unit) => y = rf) (fun _ t => PP g (WM g ad Sf) t.heap ∧ va_D (AM ad) (WM g ad Sf)) (AM ad)) 0 0 (AM ad) := by
  refine sm_st (by decide) ?_
  intro p e s m args below meth c hx hb hr hlocks hml hown hnm hts hv
  obtain ⟨hargs, hP, hE, hD⟩ := hv
  obtain ⟨hK, hN⟩ := id hE
  have hS : va_S (AM ad) s.heap s.heap [] := va_S.rf
  have hown : s.vm.findClass RX9 = some m.cls := hown
  refine sm_en _ (Nat.le_of_ble_eq_true rfl) hargs (fun ls hl => ?_)
  have hl : lv_has ls 6 [(0, .ref (ad 0)), (1, .ref (ad 27)), (2, .int a2), (3, .int a3), (4, .int a4)] := hl
  generalize hQ : MQ below _ args s _ _ _ = Q
  unfold fX9_readInto_11 at hf
  refine lv_aload_n hx hb dX9_readInto_0 rfl (lv_at hl 0 rfl) ?_
  refine va_get (D := (g.1, g.2.1)) (ci := 9) (v := .int (S.1 22)) (C := RX9) (T := TX9) (N := 39) hx hb hts in_X9 hown hK hP 0 rfl rfl 22 (by decide) (hts _ q878) (fun _ h9 => h9) rfl dX9_readInto_1 ?_
  refine lv_istore (lv' := [(5, .int (S.1 22)), (0, .ref (ad 0)), (1, .ref (ad 27)), (2, .int a2), (3, .int a3), (4, .int a4)]) hx hb dX9_readInto_4 hl (by decide) rfl (fun ls hl => ?_)
  refine lv_aload_n hx hb dX9_readInto_6 rfl (lv_at hl 1 rfl) ?_
  refine lv_aload_n hx hb dX9_readInto_7 rfl (lv_at hl 1 rfl) ?_
  refine va_get (D := (g.1, g.2.1)) (ci := 9) (v := .int (S.1 21)) (C := RX9) (T := TX9) (N := 39) hx hb hts in_X9 hown hK hP 0 rfl rfl 21 (by decide) (hts _ q877) (fun _ h9 => h9) rfl dX9_readInto_8 ?_
  refine lv_iconst (v := 2) hx hb dX9_readInto_11 (by decide) ?_
  obtain ⟨x_1, hf, hf0⟩ := sm_b1_e hf
  suffices hj_2 : ∀ (ls : Array Slot), lv_has ls 6 [(5, .int (S.1 22)), (0, .ref (ad 0)), (1, .ref (ad 27)), (2, .int a2), (3, .int a3), (4, .int a4)] → W p l e rX9_readInto_11 s m args below meth c s.heap [] 0 0 Q (F0 m 31 ls [.int x_1, .ref (ad 0)]) from by
    refine lv_icmp_ne (tgt := 30) hx hb dX9_readInto_12 (by decide) (fun c_3 => ?_) (fun c_3 => ?_)
    · have hf := (if_neg c_3).symm.trans hf
      refine lv_iconst (v := 0) hx hb dX9_readInto_30 (by decide) ?_
      cases hf
      exact hj_2 _ (lv_sub hl [0, 1, 2, 3, 4, 5] rfl)
    · have hf := (if_pos c_3).symm.trans hf
      refine lv_iload hx hb dX9_readInto_15 (lv_at hl 0 rfl) ?_
      refine lv_iload_n hx hb dX9_readInto_17 rfl (lv_at hl 4 rfl) ?_
      refine lv_iload hx hb dX9_readInto_18 (lv_at hl 5 rfl) ?_
      refine vp_callSi (W.runS (As := [.int (S.1 22), .int a3, .int a4]) (rest := [.ref (ad 0)]) ⟨hx, hb, hml, hown, hts⟩ (wX9_in l (S.1 22) a3 a4 (fX9_in (S.1 22) a3 a4) rfl) (va_cwS 3 hts (lw_S q979 q980 q70 q981) rfl rfl rfl (by decide +kernel) ⟨Nat.le_of_ble_eq_true rfl, Nat.le_of_ble_eq_true rfl⟩) (sm_ps) rfl rfl hl.1 rfl (lv_room (Nat.le_of_ble_eq_true rfl)) dX9_readInto_20 ⟨Nat.le_of_ble_eq_true rfl, Nat.le_of_ble_eq_true rfl⟩) (fun r_5 er_4 => ?_)
      have er_4 := er_4.symm
      subst er_4
      refine lv_if_eq (tgt := 30) hx hb dX9_readInto_23 (by decide) (fun c_6 => ?_) (fun c_6 => ?_)
      · have hf := (if_pos c_6).symm.trans hf
        refine lv_iconst (v := 0) hx hb dX9_readInto_30 (by decide) ?_
        cases hf
        exact hj_2 _ (lv_sub hl [0, 1, 2, 3, 4, 5] rfl)
      · have hf := (if_neg c_6).symm.trans hf
        refine lv_iconst (v := 1) hx hb dX9_readInto_26 (by decide) ?_
        refine lv_goto (tgt := 31) hx hb dX9_readInto_27 (by decide) ?_
        cases hf
        exact hj_2 _ (lv_sub hl [0, 1, 2, 3, 4, 5] rfl)
  intro ls hl
  have hf := hf0
  obtain ⟨S_7, h_8, hf⟩ := sm_b1_e hf
  refine va_callv (va_runV (As := [.int x_1]) (rest := []) ⟨hx, hb, hml, hown, hts⟩ (wX9_must l g ad S x_1 S_7 h_8) (cwV 1 hts (lw_V q1009 q1011 qs26 q70 q1012) rfl rfl rfl (by decide +kernel) ⟨Nat.le_of_ble_eq_true rfl, Nat.le_of_ble_eq_true rfl⟩) (sm_pe hE hP hD (va_recv hK hP (ci := 9) (q0 := 0) rfl rfl)) rfl rfl hl.1 rfl (lv_room (Nat.le_of_ble_eq_true rfl)) dX9_readInto_31 ⟨Nat.le_of_ble_eq_true rfl, Nat.le_of_ble_eq_true rfl⟩) hS (fun _ _ h => h) (fun _ h => h) (fun u t H locs ht hvm er_9 hB hz hk hS => ?_)
  obtain ⟨hP, hD⟩ := hB
  rw [ht] at hP
  refine lv_aload_n hx hb dX9_readInto_34 rfl (lv_at hl 1 rfl) ?_
  refine va_get (D := (g.1, g.2.1)) (ci := 9) (v := .int (S_7.1 23)) (C := RX9) (T := TX9) (N := 39) hx hb hts in_X9 hown hK hP 0 rfl rfl 23 (by decide) (hts _ q879) (fun _ h9 => h9) rfl dX9_readInto_35 ?_
  refine lv_if_ne (tgt := 46) hx hb dX9_readInto_38 (by decide) (fun c_11 => ?_) (fun c_11 => ?_)
  · have hf := (if_neg c_11).symm.trans hf
    refine lv_iload hx hb dX9_readInto_46 (lv_at hl 0 rfl) ?_
    have hf := Option.some.inj hf
    rw [← hQ]
    have hf := Prod.mk.inj hf
    exact W.iret (v := S.1 22) hx hb hr (fun t ht hW => ⟨⟨_, (), rfl, hf.2, by rw [ht, ← hf.1]; exact hP, by rw [← hf.1]; exact hD⟩, hS.F ht⟩) hS.2.2 dX9_readInto_48
  · have hf := (if_pos c_11).symm.trans hf
    refine lv_aload_n hx hb dX9_readInto_41 rfl (lv_at hl 2 rfl) ?_
    refine lv_iload_n hx hb dX9_readInto_42 rfl (lv_at hl 3 rfl) ?_
    refine lv_iload hx hb dX9_readInto_43 (lv_at hl 0 rfl) ?_
    obtain ⟨hg, hf⟩ := sm_gd_e hf
    refine va_iast (i := a2) (x := S.1 22) hx hb hK hP hD hS 11 0 rfl rfl (sm_in hg) dX9_readInto_45 (fun H locs hP hD hS => ?_)
    obtain ⟨S_12, eS_12, hf⟩ := sm_lt_e hf
    have hP : PP g (WM g ad S_12) H := by rw [eS_12]; exact pmr27 hP
    have hD : va_D (AM ad) (WM g ad S_12) := by rw [eS_12]; exact dmr27 hD
    refine lv_iload hx hb dX9_readInto_46 (lv_at hl 0 rfl) ?_
    have hf := Option.some.inj hf
    rw [← hQ]
    have hf := Prod.mk.inj hf
    exact W.iret (v := S.1 22) hx hb hr (fun t ht hW => ⟨⟨_, (), rfl, hf.2, by rw [ht, ← hf.1]; exact hP, by rw [← hf.1]; exact hD⟩, hS.F ht⟩) hS.2.2 dX9_readInto_48
abbrev rX9_readClerk : Room := { frames := 4, cells := 0, slots := 0, locals := 90 }
set_option maxHeartbeats 4000000 in
theorem wX9_readClerk (l : Launch) (g : GG) (ad : Nat → Nat) (S : MS) (Sf : MS) (hf : fX9_readClerk S = some Sf) : Met l yX9_readClerk (ws_ yX9_readClerk cX9_readClerk 4 none) rX9_readClerk (va_Pc [.ref (ad 0)] (fun U => PP g (WM g ad S) U.heap ∧ EV g U ∧ va_D (AM ad) (WM g ad S))) (va_Qv (fun (_ : Unit) => True) (fun _ t => PP g (WM g ad Sf) t.heap ∧ va_D (AM ad) (WM g ad Sf)) (AM ad)) 0 0 (AM ad) := by
  refine sm_st (by decide) ?_
  intro p e s m args below meth c hx hb hr hlocks hml hown hnm hts hv
  obtain ⟨hargs, hP, hE, hD⟩ := hv
  obtain ⟨hK, hN⟩ := id hE
  have hS : va_S (AM ad) s.heap s.heap [] := va_S.rf
  have hown : s.vm.findClass RX9 = some m.cls := hown
  refine sm_en _ (Nat.le_of_ble_eq_true rfl) hargs (fun ls hl => ?_)
  have hl : lv_has ls 4 [(0, .ref (ad 0))] := hl
  generalize hQ : MQ below _ args s _ _ _ = Q
  unfold fX9_readClerk at hf
  refine lv_aload_n hx hb dX9_readClerk_0 rfl (lv_at hl 0 rfl) ?_
  refine lv_aload_n hx hb dX9_readClerk_1 rfl (lv_at hl 0 rfl) ?_
  refine va_get (D := (g.1, g.2.1)) (ci := 9) (v := .int (S.1 26)) (C := RX9) (T := TX9) (N := 39) hx hb hts in_X9 hown hK hP 0 rfl rfl 26 (by decide) (hts _ q882) (fun _ h9 => h9) rfl dX9_readClerk_2 ?_
  refine lv_iconst (v := 4) hx hb dX9_readClerk_5 (by decide) ?_
  obtain ⟨x_1, hf, hf0⟩ := sm_b1_e hf
  suffices hj_2 : ∀ (ls : Array Slot), lv_has ls 4 [(0, .ref (ad 0))] → W p l e rX9_readClerk s m args below meth c s.heap [] 0 0 Q (F0 m 14 ls [.int x_1, .ref (ad 0)]) from by
    refine lv_icmp_ge (tgt := 13) hx hb dX9_readClerk_6 (by decide) (fun c_3 => ?_) (fun c_3 => ?_)
    · have hf := (if_pos c_3).symm.trans hf
      refine lv_iconst (v := 0) hx hb dX9_readClerk_13 (by decide) ?_
      cases hf
      exact hj_2 _ (lv_sub hl [0] rfl)
    · have hf := (if_neg c_3).symm.trans hf
      refine lv_iconst (v := 1) hx hb dX9_readClerk_9 (by decide) ?_
      refine lv_goto (tgt := 14) hx hb dX9_readClerk_10 (by decide) ?_
      cases hf
      exact hj_2 _ (lv_sub hl [0] rfl)
  intro ls hl
  have hf := hf0
  obtain ⟨S_4, h_5, hf⟩ := sm_b1_e hf
  refine va_callv (va_runV (As := [.int x_1]) (rest := []) ⟨hx, hb, hml, hown, hts⟩ (wX9_must l g ad S x_1 S_4 h_5) (cwV 1 hts (lw_V q1009 q1011 qs26 q70 q1012) rfl rfl rfl (by decide +kernel) ⟨Nat.le_of_ble_eq_true rfl, Nat.le_of_ble_eq_true rfl⟩) (sm_pe hE hP hD (va_recv hK hP (ci := 9) (q0 := 0) rfl rfl)) rfl rfl hl.1 rfl (lv_room (Nat.le_of_ble_eq_true rfl)) dX9_readClerk_14 ⟨Nat.le_of_ble_eq_true rfl, Nat.le_of_ble_eq_true rfl⟩) hS (fun _ _ h => h) (fun _ h => h) (fun u t H locs ht hvm er_6 hB hz hk hS => ?_)
  obtain ⟨hP, hD⟩ := hB
  rw [ht] at hP
  refine lv_aload_n hx hb dX9_readClerk_17 rfl (lv_at hl 0 rfl) ?_
  refine va_get (D := (g.1, g.2.1)) (ci := 9) (v := .int (S_4.1 23)) (C := RX9) (T := TX9) (N := 39) hx hb hts in_X9 hown hK hP 0 rfl rfl 23 (by decide) (hts _ q879) (fun _ h9 => h9) rfl dX9_readClerk_18 ?_
  refine lv_if_eq (tgt := 25) hx hb dX9_readClerk_21 (by decide) (fun c_8 => ?_) (fun c_8 => ?_)
  · have hf := (if_pos c_8).symm.trans hf
    refine lv_iconst (v := 3) hx hb dX9_readClerk_25 (by decide) ?_
    refine lv_aload_n hx hb dX9_readClerk_26 rfl (lv_at hl 0 rfl) ?_
    refine va_get (D := (g.1, g.2.1)) (ci := 9) (v := .int (S_4.1 26)) (C := RX9) (T := TX9) (N := 39) hx hb hts in_X9 hown hK hP 0 rfl rfl 26 (by decide) (hts _ q882) (fun _ h9 => h9) rfl dX9_readClerk_27 ?_
    refine lv_imul hx hb dX9_readClerk_30 ?_
    refine lv_istore_n (lv' := [(1, .int (3 * (S_4.1 26))), (0, .ref (ad 0))]) hx hb dX9_readClerk_31 rfl hl (by decide) rfl (fun ls hl => ?_)
    refine lv_aload_n hx hb dX9_readClerk_32 rfl (lv_at hl 1 rfl) ?_
    refine lv_aload_n hx hb dX9_readClerk_33 rfl (lv_at hl 1 rfl) ?_
    refine va_get (D := (g.1, g.2.1)) (ci := 9) (v := .ref (ad 27)) (C := RX9) (T := TX9) (N := 39) hx hb hts in_X9 hown hK hP 0 rfl rfl 27 (by decide) (hts _ q883) (fun _ h9 => h9) rfl dX9_readClerk_34 ?_
    refine lv_iload_n hx hb dX9_readClerk_37 rfl (lv_at hl 0 rfl) ?_
    refine lv_iconst (v := 0) hx hb dX9_readClerk_38 (by decide) ?_
    refine lv_sipush (v := 1023) hx hb dX9_readClerk_39 (by decide) ?_
    obtain ⟨S_9, r_11, h_10, hf⟩ := sm_b2_e hf
    refine va_calli (va_runV (As := [.ref (ad 27), .int (3 * (S_4.1 26)), .int 0, .int 1023]) (rest := []) ⟨hx, hb, hml, hown, hts⟩ (wX9_readInto_11 l g ad S_4 (3 * (S_4.1 26)) 0 1023 S_9 r_11 h_10) (cwV 4 hts (lw_V q1013 q1015 qs27 q70 q1016) rfl rfl rfl (by decide +kernel) ⟨Nat.le_of_ble_eq_true rfl, Nat.le_of_ble_eq_true rfl⟩) (sm_pe hE hP hD (va_recv hK hP (ci := 9) (q0 := 0) rfl rfl)) rfl rfl hl.1 rfl (lv_room (Nat.le_of_ble_eq_true rfl)) dX9_readClerk_42 ⟨Nat.le_of_ble_eq_true rfl, Nat.le_of_ble_eq_true rfl⟩) hS (fun _ _ h => h) (fun _ h => h) (fun r_13 u t H locs ht hvm er_12 hB hz hk hS => ?_)
    have er_12 := er_12.symm
    subst er_12
    obtain ⟨hP, hD⟩ := hB
    rw [ht] at hP
    refine lv_pop hx hb dX9_readClerk_45 rfl ?_
    refine lv_aload_n hx hb dX9_readClerk_46 rfl (lv_at hl 1 rfl) ?_
    refine lv_aload_n hx hb dX9_readClerk_47 rfl (lv_at hl 1 rfl) ?_
    refine va_get (D := (g.1, g.2.1)) (ci := 9) (v := .ref (ad 27)) (C := RX9) (T := TX9) (N := 39) hx hb hts in_X9 hown hK hP 0 rfl rfl 27 (by decide) (hts _ q883) (fun _ h9 => h9) rfl dX9_readClerk_48 ?_
    refine lv_iload_n hx hb dX9_readClerk_51 rfl (lv_at hl 0 rfl) ?_
    refine lv_iconst (v := 1) hx hb dX9_readClerk_52 (by decide) ?_
    refine lv_iadd hx hb dX9_readClerk_53 ?_
    refine lv_iconst (v := 0) hx hb dX9_readClerk_54 (by decide) ?_
    refine lv_bipush (v := 10) hx hb dX9_readClerk_55 (by decide) ?_
    obtain ⟨S_14, r_16, h_15, hf⟩ := sm_b2_e hf
    refine va_calli (va_runV (As := [.ref (ad 27), .int ((3 * (S_4.1 26)) + 1), .int 0, .int 10]) (rest := []) ⟨hx, hb, hml, hown, hts⟩ (wX9_readInto_11 l g ad S_9 ((3 * (S_4.1 26)) + 1) 0 10 S_14 r_16 h_15) (cwV 4 hts (lw_V q1013 q1015 qs27 q70 q1016) rfl rfl rfl (by decide +kernel) ⟨Nat.le_of_ble_eq_true rfl, Nat.le_of_ble_eq_true rfl⟩) (sm_pe hE hP hD (va_recv hK hP (ci := 9) (q0 := 0) rfl rfl)) rfl rfl hl.1 rfl (lv_room (Nat.le_of_ble_eq_true rfl)) dX9_readClerk_57 ⟨Nat.le_of_ble_eq_true rfl, Nat.le_of_ble_eq_true rfl⟩) hS (fun _ _ h => h) (fun _ h => h) (fun r_18 u t H locs ht hvm er_17 hB hz hk hS => ?_)
    have er_17 := er_17.symm
    subst er_17
    obtain ⟨hP, hD⟩ := hB
    rw [ht] at hP
    refine lv_istore_n (lv' := [(2, .int r_16), (1, .int (3 * (S_4.1 26))), (0, .ref (ad 0))]) hx hb dX9_readClerk_60 rfl hl (by decide) rfl (fun ls hl => ?_)
    refine lv_aload_n hx hb dX9_readClerk_61 rfl (lv_at hl 2 rfl) ?_
    refine va_get (D := (g.1, g.2.1)) (ci := 9) (v := .int (S_14.1 22)) (C := RX9) (T := TX9) (N := 39) hx hb hts in_X9 hown hK hP 0 rfl rfl 22 (by decide) (hts _ q878) (fun _ h9 => h9) rfl dX9_readClerk_62 ?_
    refine lv_istore_n (lv' := [(3, .int (S_14.1 22)), (2, .int r_16), (1, .int (3 * (S_4.1 26))), (0, .ref (ad 0))]) hx hb dX9_readClerk_65 rfl hl (by decide) rfl (fun ls hl => ?_)
    refine lv_aload_n hx hb dX9_readClerk_66 rfl (lv_at hl 3 rfl) ?_
    refine lv_aload_n hx hb dX9_readClerk_67 rfl (lv_at hl 3 rfl) ?_
    refine va_get (D := (g.1, g.2.1)) (ci := 9) (v := .int (S_14.1 21)) (C := RX9) (T := TX9) (N := 39) hx hb hts in_X9 hown hK hP 0 rfl rfl 21 (by decide) (hts _ q877) (fun _ h9 => h9) rfl dX9_readClerk_68 ?_
    refine lv_iconst (v := 2) hx hb dX9_readClerk_71 (by decide) ?_
    obtain ⟨x_19, hf, hf0⟩ := sm_b1_e hf
    suffices hj_20 : ∀ (ls : Array Slot), lv_has ls 4 [(3, .int (S_14.1 22)), (2, .int r_16), (1, .int (3 * (S_4.1 26))), (0, .ref (ad 0))] → W p l e rX9_readClerk s m args below meth c H locs 0 0 Q (F0 m 106 ls [.int x_19, .ref (ad 0)]) from by
      refine lv_icmp_ne (tgt := 105) hx hb dX9_readClerk_72 (by decide) (fun c_21 => ?_) (fun c_21 => ?_)
      · have hf := (if_neg c_21).symm.trans hf
        refine lv_iconst (v := 0) hx hb dX9_readClerk_105 (by decide) ?_
        cases hf
        exact hj_20 _ (lv_sub hl [0, 1, 2, 3] rfl)
      · have hf := (if_pos c_21).symm.trans hf
        refine lv_iload_n hx hb dX9_readClerk_75 rfl (lv_at hl 1 rfl) ?_
        refine lv_bipush (v := 10) hx hb dX9_readClerk_76 (by decide) ?_
        refine lv_icmp_ne (tgt := 90) hx hb dX9_readClerk_78 (by decide) (fun c_22 => ?_) (fun c_22 => ?_)
        · have hf := (if_neg c_22).symm.trans hf
          refine lv_iload_n hx hb dX9_readClerk_90 rfl (lv_at hl 0 rfl) ?_
          refine lv_bipush (v := 10) hx hb dX9_readClerk_91 (by decide) ?_
          refine lv_icmp_ge (tgt := 105) hx hb dX9_readClerk_93 (by decide) (fun c_23 => ?_) (fun c_23 => ?_)
          · have hf := (if_pos c_23).symm.trans hf
            refine lv_iconst (v := 0) hx hb dX9_readClerk_105 (by decide) ?_
            cases hf
            exact hj_20 _ (lv_sub hl [0, 1, 2, 3] rfl)
          · have hf := (if_neg c_23).symm.trans hf
            refine lv_iload_n hx hb dX9_readClerk_96 rfl (lv_at hl 0 rfl) ?_
            refine lv_iload_n hx hb dX9_readClerk_97 rfl (lv_at hl 1 rfl) ?_
            refine lv_icmp_eq (tgt := 105) hx hb dX9_readClerk_98 (by decide) (fun c_24 => ?_) (fun c_24 => ?_)
            · have hf := (if_pos c_24).symm.trans hf
              refine lv_iconst (v := 0) hx hb dX9_readClerk_105 (by decide) ?_
              cases hf
              exact hj_20 _ (lv_sub hl [0, 1, 2, 3] rfl)
            · have hf := (if_neg c_24).symm.trans hf
              refine lv_iconst (v := 1) hx hb dX9_readClerk_101 (by decide) ?_
              refine lv_goto (tgt := 106) hx hb dX9_readClerk_102 (by decide) ?_
              cases hf
              exact hj_20 _ (lv_sub hl [0, 1, 2, 3] rfl)
        · have hf := (if_pos c_22).symm.trans hf
          refine lv_iload_n hx hb dX9_readClerk_81 rfl (lv_at hl 0 rfl) ?_
          refine lv_bipush (v := 10) hx hb dX9_readClerk_82 (by decide) ?_
          refine lv_icmp_ne (tgt := 105) hx hb dX9_readClerk_84 (by decide) (fun c_25 => ?_) (fun c_25 => ?_)
          · have hf := (if_neg c_25).symm.trans hf
            refine lv_iconst (v := 0) hx hb dX9_readClerk_105 (by decide) ?_
            cases hf
            exact hj_20 _ (lv_sub hl [0, 1, 2, 3] rfl)
          · have hf := (if_pos c_25).symm.trans hf
            refine lv_goto (tgt := 101) hx hb dX9_readClerk_87 (by decide) ?_
            refine lv_iconst (v := 1) hx hb dX9_readClerk_101 (by decide) ?_
            refine lv_goto (tgt := 106) hx hb dX9_readClerk_102 (by decide) ?_
            cases hf
            exact hj_20 _ (lv_sub hl [0, 1, 2, 3] rfl)
    intro ls hl
    have hf := hf0
    obtain ⟨S_26, h_27, hf⟩ := sm_b1_e hf
    refine va_callv (va_runV (As := [.int x_19]) (rest := []) ⟨hx, hb, hml, hown, hts⟩ (wX9_must l g ad S_14 x_19 S_26 h_27) (cwV 1 hts (lw_V q1009 q1011 qs26 q70 q1012) rfl rfl rfl (by decide +kernel) ⟨Nat.le_of_ble_eq_true rfl, Nat.le_of_ble_eq_true rfl⟩) (sm_pe hE hP hD (va_recv hK hP (ci := 9) (q0 := 0) rfl rfl)) rfl rfl hl.1 rfl (lv_room (Nat.le_of_ble_eq_true rfl)) dX9_readClerk_106 ⟨Nat.le_of_ble_eq_true rfl, Nat.le_of_ble_eq_true rfl⟩) hS (fun _ _ h => h) (fun _ h => h) (fun u t H locs ht hvm er_28 hB hz hk hS => ?_)
    obtain ⟨hP, hD⟩ := hB
    rw [ht] at hP
    refine lv_aload_n hx hb dX9_readClerk_109 rfl (lv_at hl 3 rfl) ?_
    refine va_get (D := (g.1, g.2.1)) (ci := 9) (v := .ref (ad 27)) (C := RX9) (T := TX9) (N := 39) hx hb hts in_X9 hown hK hP 0 rfl rfl 27 (by decide) (hts _ q883) (fun _ h9 => h9) rfl dX9_readClerk_110 ?_
    refine lv_iload_n hx hb dX9_readClerk_113 rfl (lv_at hl 2 rfl) ?_
    refine lv_iconst (v := 2) hx hb dX9_readClerk_114 (by decide) ?_
    refine lv_iadd hx hb dX9_readClerk_115 ?_
    refine lv_iload_n hx hb dX9_readClerk_116 rfl (lv_at hl 0 rfl) ?_
    obtain ⟨hg, hf⟩ := sm_gd_e hf
    refine va_iast (i := (3 * (S_4.1 26)) + 2) (x := S_14.1 22) hx hb hK hP hD hS 11 0 rfl rfl (sm_in hg) dX9_readClerk_117 (fun H locs hP hD hS => ?_)
    obtain ⟨S_30, eS_30, hf⟩ := sm_lt_e hf
    have hP : PP g (WM g ad S_30) H := by rw [eS_30]; exact pmr27 hP
    have hD : va_D (AM ad) (WM g ad S_30) := by rw [eS_30]; exact dmr27 hD
    refine lv_aload_n hx hb dX9_readClerk_118 rfl (lv_at hl 3 rfl) ?_
    refine lv_aload_n hx hb dX9_readClerk_119 rfl (lv_at hl 3 rfl) ?_
    refine va_get (D := (g.1, g.2.1)) (ci := 9) (v := .int (S_30.1 21)) (C := RX9) (T := TX9) (N := 39) hx hb hts in_X9 hown hK hP 0 rfl rfl 21 (by decide) (hts _ q877) (fun _ h9 => h9) rfl dX9_readClerk_120 ?_
    refine lv_iconst (v := 3) hx hb dX9_readClerk_123 (by decide) ?_
    obtain ⟨x_31, hf, hf0⟩ := sm_b1_e hf
    suffices hj_32 : ∀ (ls : Array Slot), lv_has ls 4 [(3, .int (S_14.1 22)), (2, .int r_16), (1, .int (3 * (S_4.1 26))), (0, .ref (ad 0))] → W p l e rX9_readClerk s m args below meth c H locs 0 0 Q (F0 m 132 ls [.int x_31, .ref (ad 0)]) from by
      refine lv_icmp_ne (tgt := 131) hx hb dX9_readClerk_124 (by decide) (fun c_33 => ?_) (fun c_33 => ?_)
      · have hf := (if_neg c_33).symm.trans hf
        refine lv_iconst (v := 0) hx hb dX9_readClerk_131 (by decide) ?_
        cases hf
        exact hj_32 _ (lv_sub hl [0, 1, 2, 3] rfl)
      · have hf := (if_pos c_33).symm.trans hf
        refine lv_iconst (v := 1) hx hb dX9_readClerk_127 (by decide) ?_
        refine lv_goto (tgt := 132) hx hb dX9_readClerk_128 (by decide) ?_
        cases hf
        exact hj_32 _ (lv_sub hl [0, 1, 2, 3] rfl)
    intro ls hl
    have hf := hf0
    obtain ⟨S_34, h_35, hf⟩ := sm_b1_e hf
    refine va_callv (va_runV (As := [.int x_31]) (rest := []) ⟨hx, hb, hml, hown, hts⟩ (wX9_must l g ad S_30 x_31 S_34 h_35) (cwV 1 hts (lw_V q1009 q1011 qs26 q70 q1012) rfl rfl rfl (by decide +kernel) ⟨Nat.le_of_ble_eq_true rfl, Nat.le_of_ble_eq_true rfl⟩) (sm_pe hE hP hD (va_recv hK hP (ci := 9) (q0 := 0) rfl rfl)) rfl rfl hl.1 rfl (lv_room (Nat.le_of_ble_eq_true rfl)) dX9_readClerk_132 ⟨Nat.le_of_ble_eq_true rfl, Nat.le_of_ble_eq_true rfl⟩) hS (fun _ _ h => h) (fun _ h => h) (fun u t H locs ht hvm er_36 hB hz hk hS => ?_)
    obtain ⟨hP, hD⟩ := hB
    rw [ht] at hP
    refine lv_aload_n hx hb dX9_readClerk_135 rfl (lv_at hl 3 rfl) ?_
    refine lv_dup hx hb dX9_readClerk_136 rfl ?_
    refine va_get (D := (g.1, g.2.1)) (ci := 9) (v := .int (S_34.1 26)) (C := RX9) (T := TX9) (N := 39) hx hb hts in_X9 hown hK hP 0 rfl rfl 26 (by decide) (hts _ q882) (fun _ h9 => h9) rfl dX9_readClerk_137 ?_
    refine lv_iconst (v := 1) hx hb dX9_readClerk_140 (by decide) ?_
    refine lv_iadd hx hb dX9_readClerk_141 ?_
    refine va_put (D := (g.1, g.2.1)) (ci := 9) (v := .int ((S_34.1 26) + 1)) (ty := .int) (C := RX9) (T := TX9) (N := 39) hx hb hts in_X9 tyX9 tyX9_ok nmX9 hown hK hP hD hS 0 rfl rfl 26 (by decide) (hts _ q882) (fun _ h9 => h9) rfl (by decide +kernel) rfl rfl (Nat.le_of_ble_eq_true rfl) dX9_readClerk_142 (fun H locs hP hD hS => ?_)
    obtain ⟨S_38, eS_38, hf⟩ := sm_lt_e hf
    have hP : PP g (WM g ad S_38) H := by rw [eS_38]; exact pmf26 hP
    have hD : va_D (AM ad) (WM g ad S_38) := by rw [eS_38]; exact dmf26 hD
    have hf := Option.some.inj hf
    rw [← hQ]
    exact W.vret hx hb hr (fun t ht hW => ⟨⟨(), rfl, trivial, by rw [ht, ← hf]; exact hP, by rw [← hf]; exact hD⟩, hS.F ht⟩) hS.2.2 dX9_readClerk_145
  · have hf := (if_neg c_8).symm.trans hf
    have hf := Option.some.inj hf
    rw [← hQ]
    exact W.vret hx hb hr (fun t ht hW => ⟨⟨(), rfl, trivial, by rw [ht, ← hf]; exact hP, by rw [← hf]; exact hD⟩, hS.F ht⟩) hS.2.2 dX9_readClerk_24
abbrev rX9_readOne : Room := { frames := 4, cells := 0, slots := 0, locals := 90 }
set_option maxHeartbeats 4000000 in
theorem wX9_readOne (l : Launch) (g : GG) (ad : Nat → Nat) (S : MS) (a1 : Int32) (a2 : Int32) (Sf : MS) (hf : fX9_readOne S a1 a2 = some Sf) : Met l yX9_readOne (ws_ yX9_readOne cX9_readOne 3 none) rX9_readOne (va_Pc [.ref (ad 0), .int a1, .int a2] (fun U => PP g (WM g ad S) U.heap ∧ EV g U ∧ va_D (AM ad) (WM g ad S))) (va_Qv (fun (_ : Unit) => True) (fun _ t => PP g (WM g ad Sf) t.heap ∧ va_D (AM ad) (WM g ad Sf)) (AM ad)) 0 0 (AM ad) := by
  refine sm_st (by decide) ?_
  intro p e s m args below meth c hx hb hr hlocks hml hown hnm hts hv
  obtain ⟨hargs, hP, hE, hD⟩ := hv
  obtain ⟨hK, hN⟩ := id hE
  have hS : va_S (AM ad) s.heap s.heap [] := va_S.rf
  have hown : s.vm.findClass RX9 = some m.cls := hown
  refine sm_en _ (Nat.le_of_ble_eq_true rfl) hargs (fun ls hl => ?_)
  have hl : lv_has ls 3 [(0, .ref (ad 0)), (1, .int a1), (2, .int a2)] := hl
  generalize hQ : MQ below _ args s _ _ _ = Q
  unfold fX9_readOne at hf
  refine lv_aload_n hx hb dX9_readOne_0 rfl (lv_at hl 0 rfl) ?_
  refine lv_aload_n hx hb dX9_readOne_1 rfl (lv_at hl 0 rfl) ?_
  refine va_get (D := (g.1, g.2.1)) (ci := 9) (v := .int (S.1 29)) (C := RX9) (T := TX9) (N := 39) hx hb hts in_X9 hown hK hP 0 rfl rfl 29 (by decide) (hts _ q885) (fun _ h9 => h9) rfl dX9_readOne_2 ?_
  refine lv_iload_n hx hb dX9_readOne_5 rfl (lv_at hl 1 rfl) ?_
  refine vp_callSi (W.runS (As := [.int (S.1 29), .int a1]) (rest := [.ref (ad 0)]) ⟨hx, hb, hml, hown, hts⟩ (wX9_has l (S.1 29) a1 (fX9_has (S.1 29) a1) rfl) (va_cwS 2 hts (lw_S q1006 q1007 q70 q1008) rfl rfl rfl (by decide +kernel) ⟨Nat.le_of_ble_eq_true rfl, Nat.le_of_ble_eq_true rfl⟩) (sm_ps) rfl rfl hl.1 rfl (lv_room (Nat.le_of_ble_eq_true rfl)) dX9_readOne_6 ⟨Nat.le_of_ble_eq_true rfl, Nat.le_of_ble_eq_true rfl⟩) (fun r_2 er_1 => ?_)
  have er_1 := er_1.symm
  subst er_1
  obtain ⟨x_3, hf, hf0⟩ := sm_b1_e hf
  suffices hj_4 : ∀ (ls : Array Slot), lv_has ls 3 [(0, .ref (ad 0)), (1, .int a1), (2, .int a2)] → W p l e rX9_readOne s m args below meth c s.heap [] 0 0 Q (F0 m 17 ls [.int x_3, .ref (ad 0)]) from by
    refine lv_if_ne (tgt := 16) hx hb dX9_readOne_9 (by decide) (fun c_5 => ?_) (fun c_5 => ?_)
    · have hf := (if_neg c_5).symm.trans hf
      refine lv_iconst (v := 0) hx hb dX9_readOne_16 (by decide) ?_
      cases hf
      exact hj_4 _ (lv_sub hl [0, 1, 2] rfl)
    · have hf := (if_pos c_5).symm.trans hf
      refine lv_iconst (v := 1) hx hb dX9_readOne_12 (by decide) ?_
      refine lv_goto (tgt := 17) hx hb dX9_readOne_13 (by decide) ?_
      cases hf
      exact hj_4 _ (lv_sub hl [0, 1, 2] rfl)
  intro ls hl
  have hf := hf0
  obtain ⟨S_6, h_7, hf⟩ := sm_b1_e hf
  refine va_callv (va_runV (As := [.int x_3]) (rest := []) ⟨hx, hb, hml, hown, hts⟩ (wX9_must l g ad S x_3 S_6 h_7) (cwV 1 hts (lw_V q1009 q1011 qs26 q70 q1012) rfl rfl rfl (by decide +kernel) ⟨Nat.le_of_ble_eq_true rfl, Nat.le_of_ble_eq_true rfl⟩) (sm_pe hE hP hD (va_recv hK hP (ci := 9) (q0 := 0) rfl rfl)) rfl rfl hl.1 rfl (lv_room (Nat.le_of_ble_eq_true rfl)) dX9_readOne_17 ⟨Nat.le_of_ble_eq_true rfl, Nat.le_of_ble_eq_true rfl⟩) hS (fun _ _ h => h) (fun _ h => h) (fun u t H locs ht hvm er_8 hB hz hk hS => ?_)
  obtain ⟨hP, hD⟩ := hB
  rw [ht] at hP
  refine lv_aload_n hx hb dX9_readOne_20 rfl (lv_at hl 0 rfl) ?_
  refine va_get (D := (g.1, g.2.1)) (ci := 9) (v := .int (S_6.1 23)) (C := RX9) (T := TX9) (N := 39) hx hb hts in_X9 hown hK hP 0 rfl rfl 23 (by decide) (hts _ q879) (fun _ h9 => h9) rfl dX9_readOne_21 ?_
  refine lv_if_eq (tgt := 28) hx hb dX9_readOne_24 (by decide) (fun c_10 => ?_) (fun c_10 => ?_)
  · have hf := (if_pos c_10).symm.trans hf
    refine lv_aload_n hx hb dX9_readOne_28 rfl (lv_at hl 0 rfl) ?_
    refine lv_aload_n hx hb dX9_readOne_29 rfl (lv_at hl 0 rfl) ?_
    refine va_get (D := (g.1, g.2.1)) (ci := 9) (v := .ref (ad 28)) (C := RX9) (T := TX9) (N := 39) hx hb hts in_X9 hown hK hP 0 rfl rfl 28 (by decide) (hts _ q884) (fun _ h9 => h9) rfl dX9_readOne_30 ?_
    refine lv_iload_n hx hb dX9_readOne_33 rfl (lv_at hl 1 rfl) ?_
    refine lv_iconst (v := 1) hx hb dX9_readOne_34 (by decide) ?_
    refine lv_iload_n hx hb dX9_readOne_35 rfl (lv_at hl 2 rfl) ?_
    obtain ⟨S_11, r_13, h_12, hf⟩ := sm_b2_e hf
    refine va_calli (va_runV (As := [.ref (ad 28), .int a1, .int 1, .int a2]) (rest := []) ⟨hx, hb, hml, hown, hts⟩ (wX9_readInto_12 l g ad S_6 a1 1 a2 S_11 r_13 h_12) (cwV 4 hts (lw_V q1013 q1015 qs27 q70 q1016) rfl rfl rfl (by decide +kernel) ⟨Nat.le_of_ble_eq_true rfl, Nat.le_of_ble_eq_true rfl⟩) (sm_pe hE hP hD (va_recv hK hP (ci := 9) (q0 := 0) rfl rfl)) rfl rfl hl.1 rfl (lv_room (Nat.le_of_ble_eq_true rfl)) dX9_readOne_36 ⟨Nat.le_of_ble_eq_true rfl, Nat.le_of_ble_eq_true rfl⟩) hS (fun _ _ h => h) (fun _ h => h) (fun r_15 u t H locs ht hvm er_14 hB hz hk hS => ?_)
    have er_14 := er_14.symm
    subst er_14
    obtain ⟨hP, hD⟩ := hB
    rw [ht] at hP
    refine lv_pop hx hb dX9_readOne_39 rfl ?_
    refine lv_aload_n hx hb dX9_readOne_40 rfl (lv_at hl 0 rfl) ?_
    refine lv_aload_n hx hb dX9_readOne_41 rfl (lv_at hl 0 rfl) ?_
    refine va_get (D := (g.1, g.2.1)) (ci := 9) (v := .int (S_11.1 21)) (C := RX9) (T := TX9) (N := 39) hx hb hts in_X9 hown hK hP 0 rfl rfl 21 (by decide) (hts _ q877) (fun _ h9 => h9) rfl dX9_readOne_42 ?_
    refine lv_iconst (v := 3) hx hb dX9_readOne_45 (by decide) ?_
    obtain ⟨x_16, hf, hf0⟩ := sm_b1_e hf
    suffices hj_17 : ∀ (ls : Array Slot), lv_has ls 3 [(0, .ref (ad 0)), (1, .int a1), (2, .int a2)] → W p l e rX9_readOne s m args below meth c H locs 0 0 Q (F0 m 54 ls [.int x_16, .ref (ad 0)]) from by
      refine lv_icmp_ne (tgt := 53) hx hb dX9_readOne_46 (by decide) (fun c_18 => ?_) (fun c_18 => ?_)
      · have hf := (if_neg c_18).symm.trans hf
        refine lv_iconst (v := 0) hx hb dX9_readOne_53 (by decide) ?_
        cases hf
        exact hj_17 _ (lv_sub hl [0, 1, 2] rfl)
      · have hf := (if_pos c_18).symm.trans hf
        refine lv_iconst (v := 1) hx hb dX9_readOne_49 (by decide) ?_
        refine lv_goto (tgt := 54) hx hb dX9_readOne_50 (by decide) ?_
        cases hf
        exact hj_17 _ (lv_sub hl [0, 1, 2] rfl)
    intro ls hl
    have hf := hf0
    obtain ⟨S_19, h_20, hf⟩ := sm_b1_e hf
    refine va_callv (va_runV (As := [.int x_16]) (rest := []) ⟨hx, hb, hml, hown, hts⟩ (wX9_must l g ad S_11 x_16 S_19 h_20) (cwV 1 hts (lw_V q1009 q1011 qs26 q70 q1012) rfl rfl rfl (by decide +kernel) ⟨Nat.le_of_ble_eq_true rfl, Nat.le_of_ble_eq_true rfl⟩) (sm_pe hE hP hD (va_recv hK hP (ci := 9) (q0 := 0) rfl rfl)) rfl rfl hl.1 rfl (lv_room (Nat.le_of_ble_eq_true rfl)) dX9_readOne_54 ⟨Nat.le_of_ble_eq_true rfl, Nat.le_of_ble_eq_true rfl⟩) hS (fun _ _ h => h) (fun _ h => h) (fun u t H locs ht hvm er_21 hB hz hk hS => ?_)
    obtain ⟨hP, hD⟩ := hB
    rw [ht] at hP
    refine lv_aload_n hx hb dX9_readOne_57 rfl (lv_at hl 0 rfl) ?_
    refine lv_dup hx hb dX9_readOne_58 rfl ?_
    refine va_get (D := (g.1, g.2.1)) (ci := 9) (v := .int (S_19.1 29)) (C := RX9) (T := TX9) (N := 39) hx hb hts in_X9 hown hK hP 0 rfl rfl 29 (by decide) (hts _ q885) (fun _ h9 => h9) rfl dX9_readOne_59 ?_
    refine lv_iconst (v := 1) hx hb dX9_readOne_62 (by decide) ?_
    refine lv_iload_n hx hb dX9_readOne_63 rfl (lv_at hl 1 rfl) ?_
    refine lv_ishl hx hb dX9_readOne_64 ?_
    refine lv_ior hx hb dX9_readOne_65 ?_
    refine va_put (D := (g.1, g.2.1)) (ci := 9) (v := .int ((S_19.1 29) ||| (1 <<< (a1 &&& 31)))) (ty := .int) (C := RX9) (T := TX9) (N := 39) hx hb hts in_X9 tyX9 tyX9_ok nmX9 hown hK hP hD hS 0 rfl rfl 29 (by decide) (hts _ q885) (fun _ h9 => h9) rfl (by decide +kernel) rfl rfl (Nat.le_of_ble_eq_true rfl) dX9_readOne_66 (fun H locs hP hD hS => ?_)
    obtain ⟨S_23, eS_23, hf⟩ := sm_lt_e hf
    have hP : PP g (WM g ad S_23) H := by rw [eS_23]; exact pmf29 hP
    have hD : va_D (AM ad) (WM g ad S_23) := by rw [eS_23]; exact dmf29 hD
    have hf := Option.some.inj hf
    rw [← hQ]
    exact W.vret hx hb hr (fun t ht hW => ⟨⟨(), rfl, trivial, by rw [ht, ← hf]; exact hP, by rw [← hf]; exact hD⟩, hS.F ht⟩) hS.2.2 dX9_readOne_69
  · have hf := (if_neg c_10).symm.trans hf
    have hf := Option.some.inj hf
    rw [← hQ]
    exact W.vret hx hb hr (fun t ht hW => ⟨⟨(), rfl, trivial, by rw [ht, ← hf]; exact hP, by rw [← hf]; exact hD⟩, hS.F ht⟩) hS.2.2 dX9_readOne_27
abbrev rX9_readTraveller : Room := { frames := 4, cells := 0, slots := 0, locals := 90 }
set_option maxHeartbeats 4000000 in
theorem wX9_readTraveller (l : Launch) (g : GG) (ad : Nat → Nat) (S : MS) (Sf : MS) (hf : fX9_readTraveller S = some Sf) : Met l yX9_readTraveller (ws_ yX9_readTraveller cX9_readTraveller 1 none) rX9_readTraveller (va_Pc [.ref (ad 0)] (fun U => PP g (WM g ad S) U.heap ∧ EV g U ∧ va_D (AM ad) (WM g ad S))) (va_Qv (fun (_ : Unit) => True) (fun _ t => PP g (WM g ad Sf) t.heap ∧ va_D (AM ad) (WM g ad Sf)) (AM ad)) 0 0 (AM ad) := by
  refine sm_st (by decide) ?_
  intro p e s m args below meth c hx hb hr hlocks hml hown hnm hts hv
  obtain ⟨hargs, hP, hE, hD⟩ := hv
  obtain ⟨hK, hN⟩ := id hE
  have hS : va_S (AM ad) s.heap s.heap [] := va_S.rf
  have hown : s.vm.findClass RX9 = some m.cls := hown
  refine sm_en _ (Nat.le_of_ble_eq_true rfl) hargs (fun ls hl => ?_)
  have hl : lv_has ls 1 [(0, .ref (ad 0))] := hl
  generalize hQ : MQ below _ args s _ _ _ = Q
  unfold fX9_readTraveller at hf
  refine lv_aload_n hx hb dX9_readTraveller_0 rfl (lv_at hl 0 rfl) ?_
  refine lv_aload_n hx hb dX9_readTraveller_1 rfl (lv_at hl 0 rfl) ?_
  refine va_get (D := (g.1, g.2.1)) (ci := 9) (v := .int (S.1 24)) (C := RX9) (T := TX9) (N := 39) hx hb hts in_X9 hown hK hP 0 rfl rfl 24 (by decide) (hts _ q880) (fun _ h9 => h9) rfl dX9_readTraveller_2 ?_
  refine lv_bipush (v := 6) hx hb dX9_readTraveller_5 (by decide) ?_
  obtain ⟨x_1, hf, hf0⟩ := sm_b1_e hf
  suffices hj_2 : ∀ (ls : Array Slot), lv_has ls 1 [(0, .ref (ad 0))] → W p l e rX9_readTraveller s m args below meth c s.heap [] 0 0 Q (F0 m 15 ls [.int x_1, .ref (ad 0)]) from by
    refine lv_icmp_ge (tgt := 14) hx hb dX9_readTraveller_7 (by decide) (fun c_3 => ?_) (fun c_3 => ?_)
    · have hf := (if_pos c_3).symm.trans hf
      refine lv_iconst (v := 0) hx hb dX9_readTraveller_14 (by decide) ?_
      cases hf
      exact hj_2 _ (lv_sub hl [0] rfl)
    · have hf := (if_neg c_3).symm.trans hf
      refine lv_iconst (v := 1) hx hb dX9_readTraveller_10 (by decide) ?_
      refine lv_goto (tgt := 15) hx hb dX9_readTraveller_11 (by decide) ?_
      cases hf
      exact hj_2 _ (lv_sub hl [0] rfl)
  intro ls hl
  have hf := hf0
  obtain ⟨S_4, h_5, hf⟩ := sm_b1_e hf
  refine va_callv (va_runV (As := [.int x_1]) (rest := []) ⟨hx, hb, hml, hown, hts⟩ (wX9_must l g ad S x_1 S_4 h_5) (cwV 1 hts (lw_V q1009 q1011 qs26 q70 q1012) rfl rfl rfl (by decide +kernel) ⟨Nat.le_of_ble_eq_true rfl, Nat.le_of_ble_eq_true rfl⟩) (sm_pe hE hP hD (va_recv hK hP (ci := 9) (q0 := 0) rfl rfl)) rfl rfl hl.1 rfl (lv_room (Nat.le_of_ble_eq_true rfl)) dX9_readTraveller_15 ⟨Nat.le_of_ble_eq_true rfl, Nat.le_of_ble_eq_true rfl⟩) hS (fun _ _ h => h) (fun _ h => h) (fun u t H locs ht hvm er_6 hB hz hk hS => ?_)
  obtain ⟨hP, hD⟩ := hB
  rw [ht] at hP
  refine lv_aload_n hx hb dX9_readTraveller_18 rfl (lv_at hl 0 rfl) ?_
  refine va_get (D := (g.1, g.2.1)) (ci := 9) (v := .int (S_4.1 23)) (C := RX9) (T := TX9) (N := 39) hx hb hts in_X9 hown hK hP 0 rfl rfl 23 (by decide) (hts _ q879) (fun _ h9 => h9) rfl dX9_readTraveller_19 ?_
  refine lv_if_eq (tgt := 26) hx hb dX9_readTraveller_22 (by decide) (fun c_8 => ?_) (fun c_8 => ?_)
  · have hf := (if_pos c_8).symm.trans hf
    refine lv_aload_n hx hb dX9_readTraveller_26 rfl (lv_at hl 0 rfl) ?_
    refine lv_aload_n hx hb dX9_readTraveller_27 rfl (lv_at hl 0 rfl) ?_
    refine va_get (D := (g.1, g.2.1)) (ci := 9) (v := .ref (ad 25)) (C := RX9) (T := TX9) (N := 39) hx hb hts in_X9 hown hK hP 0 rfl rfl 25 (by decide) (hts _ q881) (fun _ h9 => h9) rfl dX9_readTraveller_28 ?_
    refine lv_iconst (v := 2) hx hb dX9_readTraveller_31 (by decide) ?_
    refine lv_aload_n hx hb dX9_readTraveller_32 rfl (lv_at hl 0 rfl) ?_
    refine va_get (D := (g.1, g.2.1)) (ci := 9) (v := .int (S_4.1 24)) (C := RX9) (T := TX9) (N := 39) hx hb hts in_X9 hown hK hP 0 rfl rfl 24 (by decide) (hts _ q880) (fun _ h9 => h9) rfl dX9_readTraveller_33 ?_
    refine lv_imul hx hb dX9_readTraveller_36 ?_
    refine lv_iconst (v := 0) hx hb dX9_readTraveller_37 (by decide) ?_
    refine lv_bipush (v := 40) hx hb dX9_readTraveller_38 (by decide) ?_
    obtain ⟨S_9, r_11, h_10, hf⟩ := sm_b2_e hf
    refine va_calli (va_runV (As := [.ref (ad 25), .int (2 * (S_4.1 24)), .int 0, .int 40]) (rest := []) ⟨hx, hb, hml, hown, hts⟩ (wX9_readInto_10 l g ad S_4 (2 * (S_4.1 24)) 0 40 S_9 r_11 h_10) (cwV 4 hts (lw_V q1013 q1015 qs27 q70 q1016) rfl rfl rfl (by decide +kernel) ⟨Nat.le_of_ble_eq_true rfl, Nat.le_of_ble_eq_true rfl⟩) (sm_pe hE hP hD (va_recv hK hP (ci := 9) (q0 := 0) rfl rfl)) rfl rfl hl.1 rfl (lv_room (Nat.le_of_ble_eq_true rfl)) dX9_readTraveller_40 ⟨Nat.le_of_ble_eq_true rfl, Nat.le_of_ble_eq_true rfl⟩) hS (fun _ _ h => h) (fun _ h => h) (fun r_13 u t H locs ht hvm er_12 hB hz hk hS => ?_)
    have er_12 := er_12.symm
    subst er_12
    obtain ⟨hP, hD⟩ := hB
    rw [ht] at hP
    refine lv_pop hx hb dX9_readTraveller_43 rfl ?_
    refine lv_aload_n hx hb dX9_readTraveller_44 rfl (lv_at hl 0 rfl) ?_
    refine lv_aload_n hx hb dX9_readTraveller_45 rfl (lv_at hl 0 rfl) ?_
    refine va_get (D := (g.1, g.2.1)) (ci := 9) (v := .ref (ad 25)) (C := RX9) (T := TX9) (N := 39) hx hb hts in_X9 hown hK hP 0 rfl rfl 25 (by decide) (hts _ q881) (fun _ h9 => h9) rfl dX9_readTraveller_46 ?_
    refine lv_iconst (v := 2) hx hb dX9_readTraveller_49 (by decide) ?_
    refine lv_aload_n hx hb dX9_readTraveller_50 rfl (lv_at hl 0 rfl) ?_
    refine va_get (D := (g.1, g.2.1)) (ci := 9) (v := .int (S_9.1 24)) (C := RX9) (T := TX9) (N := 39) hx hb hts in_X9 hown hK hP 0 rfl rfl 24 (by decide) (hts _ q880) (fun _ h9 => h9) rfl dX9_readTraveller_51 ?_
    refine lv_imul hx hb dX9_readTraveller_54 ?_
    refine lv_iconst (v := 1) hx hb dX9_readTraveller_55 (by decide) ?_
    refine lv_iadd hx hb dX9_readTraveller_56 ?_
    refine lv_iconst (v := 0) hx hb dX9_readTraveller_57 (by decide) ?_
    refine lv_bipush (v := 10) hx hb dX9_readTraveller_58 (by decide) ?_
    obtain ⟨S_14, r_16, h_15, hf⟩ := sm_b2_e hf
    refine va_calli (va_runV (As := [.ref (ad 25), .int ((2 * (S_9.1 24)) + 1), .int 0, .int 10]) (rest := []) ⟨hx, hb, hml, hown, hts⟩ (wX9_readInto_10 l g ad S_9 ((2 * (S_9.1 24)) + 1) 0 10 S_14 r_16 h_15) (cwV 4 hts (lw_V q1013 q1015 qs27 q70 q1016) rfl rfl rfl (by decide +kernel) ⟨Nat.le_of_ble_eq_true rfl, Nat.le_of_ble_eq_true rfl⟩) (sm_pe hE hP hD (va_recv hK hP (ci := 9) (q0 := 0) rfl rfl)) rfl rfl hl.1 rfl (lv_room (Nat.le_of_ble_eq_true rfl)) dX9_readTraveller_60 ⟨Nat.le_of_ble_eq_true rfl, Nat.le_of_ble_eq_true rfl⟩) hS (fun _ _ h => h) (fun _ h => h) (fun r_18 u t H locs ht hvm er_17 hB hz hk hS => ?_)
    have er_17 := er_17.symm
    subst er_17
    obtain ⟨hP, hD⟩ := hB
    rw [ht] at hP
    refine lv_pop hx hb dX9_readTraveller_63 rfl ?_
    refine lv_aload_n hx hb dX9_readTraveller_64 rfl (lv_at hl 0 rfl) ?_
    refine lv_aload_n hx hb dX9_readTraveller_65 rfl (lv_at hl 0 rfl) ?_
    refine va_get (D := (g.1, g.2.1)) (ci := 9) (v := .int (S_14.1 21)) (C := RX9) (T := TX9) (N := 39) hx hb hts in_X9 hown hK hP 0 rfl rfl 21 (by decide) (hts _ q877) (fun _ h9 => h9) rfl dX9_readTraveller_66 ?_
    refine lv_iconst (v := 3) hx hb dX9_readTraveller_69 (by decide) ?_
    obtain ⟨x_19, hf, hf0⟩ := sm_b1_e hf
    suffices hj_20 : ∀ (ls : Array Slot), lv_has ls 1 [(0, .ref (ad 0))] → W p l e rX9_readTraveller s m args below meth c H locs 0 0 Q (F0 m 78 ls [.int x_19, .ref (ad 0)]) from by
      refine lv_icmp_ne (tgt := 77) hx hb dX9_readTraveller_70 (by decide) (fun c_21 => ?_) (fun c_21 => ?_)
      · have hf := (if_neg c_21).symm.trans hf
        refine lv_iconst (v := 0) hx hb dX9_readTraveller_77 (by decide) ?_
        cases hf
        exact hj_20 _ (lv_sub hl [0] rfl)
      · have hf := (if_pos c_21).symm.trans hf
        refine lv_iconst (v := 1) hx hb dX9_readTraveller_73 (by decide) ?_
        refine lv_goto (tgt := 78) hx hb dX9_readTraveller_74 (by decide) ?_
        cases hf
        exact hj_20 _ (lv_sub hl [0] rfl)
    intro ls hl
    have hf := hf0
    obtain ⟨S_22, h_23, hf⟩ := sm_b1_e hf
    refine va_callv (va_runV (As := [.int x_19]) (rest := []) ⟨hx, hb, hml, hown, hts⟩ (wX9_must l g ad S_14 x_19 S_22 h_23) (cwV 1 hts (lw_V q1009 q1011 qs26 q70 q1012) rfl rfl rfl (by decide +kernel) ⟨Nat.le_of_ble_eq_true rfl, Nat.le_of_ble_eq_true rfl⟩) (sm_pe hE hP hD (va_recv hK hP (ci := 9) (q0 := 0) rfl rfl)) rfl rfl hl.1 rfl (lv_room (Nat.le_of_ble_eq_true rfl)) dX9_readTraveller_78 ⟨Nat.le_of_ble_eq_true rfl, Nat.le_of_ble_eq_true rfl⟩) hS (fun _ _ h => h) (fun _ h => h) (fun u t H locs ht hvm er_24 hB hz hk hS => ?_)
    obtain ⟨hP, hD⟩ := hB
    rw [ht] at hP
    refine lv_aload_n hx hb dX9_readTraveller_81 rfl (lv_at hl 0 rfl) ?_
    refine lv_dup hx hb dX9_readTraveller_82 rfl ?_
    refine va_get (D := (g.1, g.2.1)) (ci := 9) (v := .int (S_22.1 24)) (C := RX9) (T := TX9) (N := 39) hx hb hts in_X9 hown hK hP 0 rfl rfl 24 (by decide) (hts _ q880) (fun _ h9 => h9) rfl dX9_readTraveller_83 ?_
    refine lv_iconst (v := 1) hx hb dX9_readTraveller_86 (by decide) ?_
    refine lv_iadd hx hb dX9_readTraveller_87 ?_
    refine va_put (D := (g.1, g.2.1)) (ci := 9) (v := .int ((S_22.1 24) + 1)) (ty := .int) (C := RX9) (T := TX9) (N := 39) hx hb hts in_X9 tyX9 tyX9_ok nmX9 hown hK hP hD hS 0 rfl rfl 24 (by decide) (hts _ q880) (fun _ h9 => h9) rfl (by decide +kernel) rfl rfl (Nat.le_of_ble_eq_true rfl) dX9_readTraveller_88 (fun H locs hP hD hS => ?_)
    obtain ⟨S_26, eS_26, hf⟩ := sm_lt_e hf
    have hP : PP g (WM g ad S_26) H := by rw [eS_26]; exact pmf24 hP
    have hD : va_D (AM ad) (WM g ad S_26) := by rw [eS_26]; exact dmf24 hD
    have hf := Option.some.inj hf
    rw [← hQ]
    exact W.vret hx hb hr (fun t ht hW => ⟨⟨(), rfl, trivial, by rw [ht, ← hf]; exact hP, by rw [← hf]; exact hD⟩, hS.F ht⟩) hS.2.2 dX9_readTraveller_91
  · have hf := (if_neg c_8).symm.trans hf
    have hf := Option.some.inj hf
    rw [← hQ]
    exact W.vret hx hb hr (fun t ht hW => ⟨⟨(), rfl, trivial, by rw [ht, ← hf]; exact hP, by rw [← hf]; exact hD⟩, hS.F ht⟩) hS.2.2 dX9_readTraveller_25
abbrev rX9_readItem : Room := { frames := 5, cells := 0, slots := 0, locals := 113 }
set_option maxHeartbeats 4000000 in
theorem wX9_readItem (l : Launch) (g : GG) (ad : Nat → Nat) (S : MS) (Sf : MS) (hf : fX9_readItem S = some Sf) : Met l yX9_readItem (ws_ yX9_readItem cX9_readItem 2 none) rX9_readItem (va_Pc [.ref (ad 0)] (fun U => PP g (WM g ad S) U.heap ∧ EV g U ∧ va_D (AM ad) (WM g ad S))) (va_Qv (fun (_ : Unit) => True) (fun _ t => PP g (WM g ad Sf) t.heap ∧ va_D (AM ad) (WM g ad Sf)) (AM ad)) 0 0 (AM ad) := by
  refine sm_st (by decide) ?_
  intro p e s m args below meth c hx hb hr hlocks hml hown hnm hts hv
  obtain ⟨hargs, hP, hE, hD⟩ := hv
  obtain ⟨hK, hN⟩ := id hE
  have hS : va_S (AM ad) s.heap s.heap [] := va_S.rf
  have hown : s.vm.findClass RX9 = some m.cls := hown
  refine sm_en _ (Nat.le_of_ble_eq_true rfl) hargs (fun ls hl => ?_)
  have hl : lv_has ls 2 [(0, .ref (ad 0))] := hl
  generalize hQ : MQ below _ args s _ _ _ = Q
  unfold fX9_readItem at hf
  refine lv_aload_n hx hb dX9_readItem_0 rfl (lv_at hl 0 rfl) ?_
  refine va_get (D := (g.1, g.2.1)) (ci := 9) (v := .int (S.1 21)) (C := RX9) (T := TX9) (N := 39) hx hb hts in_X9 hown hK hP 0 rfl rfl 21 (by decide) (hts _ q877) (fun _ h9 => h9) rfl dX9_readItem_1 ?_
  refine lv_iconst (v := 1) hx hb dX9_readItem_4 (by decide) ?_
  obtain ⟨x_1, hf, hf0⟩ := sm_b1_e hf
  suffices hj_2 : ∀ (ls : Array Slot), lv_has ls 2 [(0, .ref (ad 0))] → W p l e rX9_readItem s m args below meth c s.heap [] 0 0 Q (F0 m 16 ls [.int x_1]) from by
    refine lv_icmp_ne (tgt := 15) hx hb dX9_readItem_5 (by decide) (fun c_3 => ?_) (fun c_3 => ?_)
    · have hf := (if_neg c_3).symm.trans hf
      refine lv_iconst (v := 0) hx hb dX9_readItem_15 (by decide) ?_
      cases hf
      exact hj_2 _ (lv_sub hl [0] rfl)
    · have hf := (if_pos c_3).symm.trans hf
      refine lv_aload_n hx hb dX9_readItem_8 rfl (lv_at hl 0 rfl) ?_
      refine va_get (D := (g.1, g.2.1)) (ci := 9) (v := .int (S.1 22)) (C := RX9) (T := TX9) (N := 39) hx hb hts in_X9 hown hK hP 0 rfl rfl 22 (by decide) (hts _ q878) (fun _ h9 => h9) rfl dX9_readItem_9 ?_
      refine lv_goto (tgt := 16) hx hb dX9_readItem_12 (by decide) ?_
      cases hf
      exact hj_2 _ (lv_sub hl [0] rfl)
  intro ls hl
  have hf := hf0
  refine lv_istore_n (lv' := [(1, .int x_1), (0, .ref (ad 0))]) hx hb dX9_readItem_16 rfl hl (by decide) rfl (fun ls hl => ?_)
  refine lv_iload_n hx hb dX9_readItem_17 rfl (lv_at hl 0 rfl) ?_
  refine lv_bipush (v := 113) hx hb dX9_readItem_18 (by decide) ?_
  refine lv_icmp_ne (tgt := 33) hx hb dX9_readItem_20 (by decide) (fun c_4 => ?_) (fun c_4 => ?_)
  · have hf := (if_neg c_4).symm.trans hf
    refine lv_iload_n hx hb dX9_readItem_33 rfl (lv_at hl 0 rfl) ?_
    refine lv_bipush (v := 114) hx hb dX9_readItem_34 (by decide) ?_
    refine lv_icmp_ne (tgt := 48) hx hb dX9_readItem_36 (by decide) (fun c_5 => ?_) (fun c_5 => ?_)
    · have hf := (if_neg c_5).symm.trans hf
      refine lv_iload_n hx hb dX9_readItem_48 rfl (lv_at hl 0 rfl) ?_
      refine lv_bipush (v := 98) hx hb dX9_readItem_49 (by decide) ?_
      refine lv_icmp_ne (tgt := 64) hx hb dX9_readItem_51 (by decide) (fun c_6 => ?_) (fun c_6 => ?_)
      · have hf := (if_neg c_6).symm.trans hf
        refine lv_iload_n hx hb dX9_readItem_64 rfl (lv_at hl 0 rfl) ?_
        refine lv_bipush (v := 116) hx hb dX9_readItem_65 (by decide) ?_
        refine lv_icmp_ne (tgt := 77) hx hb dX9_readItem_67 (by decide) (fun c_7 => ?_) (fun c_7 => ?_)
        · have hf := (if_neg c_7).symm.trans hf
          refine lv_iload_n hx hb dX9_readItem_77 rfl (lv_at hl 0 rfl) ?_
          refine lv_bipush (v := 107) hx hb dX9_readItem_78 (by decide) ?_
          refine lv_icmp_ne (tgt := 90) hx hb dX9_readItem_80 (by decide) (fun c_8 => ?_) (fun c_8 => ?_)
          · have hf := (if_neg c_8).symm.trans hf
            refine lv_aload_n hx hb dX9_readItem_90 rfl (lv_at hl 1 rfl) ?_
            refine lv_iconst (v := 1) hx hb dX9_readItem_91 (by decide) ?_
            refine va_put (D := (g.1, g.2.1)) (ci := 9) (v := .int 1) (ty := .boolean) (C := RX9) (T := TX9) (N := 39) hx hb hts in_X9 tyX9 tyX9_ok nmX9 hown hK hP hD hS 0 rfl rfl 23 (by decide) (hts _ q879) (fun _ h9 => h9) rfl (by decide +kernel) rfl rfl (Nat.le_of_ble_eq_true rfl) dX9_readItem_92 (fun H locs hP hD hS => ?_)
            obtain ⟨S_9, eS_9, hf⟩ := sm_lt_e hf
            have hP : PP g (WM g ad S_9) H := by rw [eS_9]; exact pmf23 hP
            have hD : va_D (AM ad) (WM g ad S_9) := by rw [eS_9]; exact dmf23 hD
            have hf := Option.some.inj hf
            rw [← hQ]
            exact W.vret hx hb hr (fun t ht hW => ⟨⟨(), rfl, trivial, by rw [ht, ← hf]; exact hP, by rw [← hf]; exact hD⟩, hS.F ht⟩) hS.2.2 dX9_readItem_95
          · have hf := (if_pos c_8).symm.trans hf
            refine lv_aload_n hx hb dX9_readItem_83 rfl (lv_at hl 1 rfl) ?_
            obtain ⟨S_10, h_11, hf⟩ := sm_b1_e hf
            refine va_callv (va_runV (As := []) (rest := []) ⟨hx, hb, hml, hown, hts⟩ (wX9_readClerk l g ad S  S_10 h_11) (cwV 0 hts (lw_V q1021 q1023 qs29 q70 q1024) rfl rfl rfl (by decide +kernel) ⟨Nat.le_of_ble_eq_true rfl, Nat.le_of_ble_eq_true rfl⟩) (sm_pe hE hP hD (va_recv hK hP (ci := 9) (q0 := 0) rfl rfl)) rfl rfl hl.1 rfl (lv_room (Nat.le_of_ble_eq_true rfl)) dX9_readItem_84 ⟨Nat.le_of_ble_eq_true rfl, Nat.le_of_ble_eq_true rfl⟩) hS (fun _ _ h => h) (fun _ h => h) (fun u t H locs ht hvm er_12 hB hz hk hS => ?_)
            obtain ⟨hP, hD⟩ := hB
            rw [ht] at hP
            refine lv_goto (tgt := 95) hx hb dX9_readItem_87 (by decide) ?_
            have hf := Option.some.inj hf
            rw [← hQ]
            exact W.vret hx hb hr (fun t ht hW => ⟨⟨(), rfl, trivial, by rw [ht, ← hf]; exact hP, by rw [← hf]; exact hD⟩, hS.F ht⟩) hS.2.2 dX9_readItem_95
        · have hf := (if_pos c_7).symm.trans hf
          refine lv_aload_n hx hb dX9_readItem_70 rfl (lv_at hl 1 rfl) ?_
          obtain ⟨S_14, h_15, hf⟩ := sm_b1_e hf
          refine va_callv (va_runV (As := []) (rest := []) ⟨hx, hb, hml, hown, hts⟩ (wX9_readTraveller l g ad S  S_14 h_15) (cwV 0 hts (lw_V q1017 q1019 qs28 q70 q1020) rfl rfl rfl (by decide +kernel) ⟨Nat.le_of_ble_eq_true rfl, Nat.le_of_ble_eq_true rfl⟩) (sm_pe hE hP hD (va_recv hK hP (ci := 9) (q0 := 0) rfl rfl)) rfl rfl hl.1 rfl (lv_room (Nat.le_of_ble_eq_true rfl)) dX9_readItem_71 ⟨Nat.le_of_ble_eq_true rfl, Nat.le_of_ble_eq_true rfl⟩) hS (fun _ _ h => h) (fun _ h => h) (fun u t H locs ht hvm er_16 hB hz hk hS => ?_)
          obtain ⟨hP, hD⟩ := hB
          rw [ht] at hP
          refine lv_goto (tgt := 95) hx hb dX9_readItem_74 (by decide) ?_
          have hf := Option.some.inj hf
          rw [← hQ]
          exact W.vret hx hb hr (fun t ht hW => ⟨⟨(), rfl, trivial, by rw [ht, ← hf]; exact hP, by rw [← hf]; exact hD⟩, hS.F ht⟩) hS.2.2 dX9_readItem_95
      · have hf := (if_pos c_6).symm.trans hf
        refine lv_aload_n hx hb dX9_readItem_54 rfl (lv_at hl 1 rfl) ?_
        refine lv_iconst (v := 2) hx hb dX9_readItem_55 (by decide) ?_
        refine lv_bipush (v := 9) hx hb dX9_readItem_56 (by decide) ?_
        obtain ⟨S_18, h_19, hf⟩ := sm_b1_e hf
        refine va_callv (va_runV (As := [.int 2, .int 9]) (rest := []) ⟨hx, hb, hml, hown, hts⟩ (wX9_readOne l g ad S 2 9 S_18 h_19) (cwV 2 hts (lw_V q1002 q1004 qs25 q70 q1005) rfl rfl rfl (by decide +kernel) ⟨Nat.le_of_ble_eq_true rfl, Nat.le_of_ble_eq_true rfl⟩) (sm_pe hE hP hD (va_recv hK hP (ci := 9) (q0 := 0) rfl rfl)) rfl rfl hl.1 rfl (lv_room (Nat.le_of_ble_eq_true rfl)) dX9_readItem_58 ⟨Nat.le_of_ble_eq_true rfl, Nat.le_of_ble_eq_true rfl⟩) hS (fun _ _ h => h) (fun _ h => h) (fun u t H locs ht hvm er_20 hB hz hk hS => ?_)
        obtain ⟨hP, hD⟩ := hB
        rw [ht] at hP
        refine lv_goto (tgt := 95) hx hb dX9_readItem_61 (by decide) ?_
        have hf := Option.some.inj hf
        rw [← hQ]
        exact W.vret hx hb hr (fun t ht hW => ⟨⟨(), rfl, trivial, by rw [ht, ← hf]; exact hP, by rw [← hf]; exact hD⟩, hS.F ht⟩) hS.2.2 dX9_readItem_95
    · have hf := (if_pos c_5).symm.trans hf
      refine lv_aload_n hx hb dX9_readItem_39 rfl (lv_at hl 1 rfl) ?_
      refine lv_iconst (v := 1) hx hb dX9_readItem_40 (by decide) ?_
      refine lv_iconst (v := 3) hx hb dX9_readItem_41 (by decide) ?_
      obtain ⟨S_22, h_23, hf⟩ := sm_b1_e hf
      refine va_callv (va_runV (As := [.int 1, .int 3]) (rest := []) ⟨hx, hb, hml, hown, hts⟩ (wX9_readOne l g ad S 1 3 S_22 h_23) (cwV 2 hts (lw_V q1002 q1004 qs25 q70 q1005) rfl rfl rfl (by decide +kernel) ⟨Nat.le_of_ble_eq_true rfl, Nat.le_of_ble_eq_true rfl⟩) (sm_pe hE hP hD (va_recv hK hP (ci := 9) (q0 := 0) rfl rfl)) rfl rfl hl.1 rfl (lv_room (Nat.le_of_ble_eq_true rfl)) dX9_readItem_42 ⟨Nat.le_of_ble_eq_true rfl, Nat.le_of_ble_eq_true rfl⟩) hS (fun _ _ h => h) (fun _ h => h) (fun u t H locs ht hvm er_24 hB hz hk hS => ?_)
      obtain ⟨hP, hD⟩ := hB
      rw [ht] at hP
      refine lv_goto (tgt := 95) hx hb dX9_readItem_45 (by decide) ?_
      have hf := Option.some.inj hf
      rw [← hQ]
      exact W.vret hx hb hr (fun t ht hW => ⟨⟨(), rfl, trivial, by rw [ht, ← hf]; exact hP, by rw [← hf]; exact hD⟩, hS.F ht⟩) hS.2.2 dX9_readItem_95
  · have hf := (if_pos c_4).symm.trans hf
    refine lv_aload_n hx hb dX9_readItem_23 rfl (lv_at hl 1 rfl) ?_
    refine lv_iconst (v := 0) hx hb dX9_readItem_24 (by decide) ?_
    refine lv_bipush (v := 40) hx hb dX9_readItem_25 (by decide) ?_
    obtain ⟨S_26, h_27, hf⟩ := sm_b1_e hf
    refine va_callv (va_runV (As := [.int 0, .int 40]) (rest := []) ⟨hx, hb, hml, hown, hts⟩ (wX9_readOne l g ad S 0 40 S_26 h_27) (cwV 2 hts (lw_V q1002 q1004 qs25 q70 q1005) rfl rfl rfl (by decide +kernel) ⟨Nat.le_of_ble_eq_true rfl, Nat.le_of_ble_eq_true rfl⟩) (sm_pe hE hP hD (va_recv hK hP (ci := 9) (q0 := 0) rfl rfl)) rfl rfl hl.1 rfl (lv_room (Nat.le_of_ble_eq_true rfl)) dX9_readItem_27 ⟨Nat.le_of_ble_eq_true rfl, Nat.le_of_ble_eq_true rfl⟩) hS (fun _ _ h => h) (fun _ h => h) (fun u t H locs ht hvm er_28 hB hz hk hS => ?_)
    obtain ⟨hP, hD⟩ := hB
    rw [ht] at hP
    refine lv_goto (tgt := 95) hx hb dX9_readItem_30 (by decide) ?_
    have hf := Option.some.inj hf
    rw [← hQ]
    exact W.vret hx hb hr (fun t ht hW => ⟨⟨(), rfl, trivial, by rw [ht, ← hf]; exact hP, by rw [← hf]; exact hD⟩, hS.F ht⟩) hS.2.2 dX9_readItem_95
abbrev rX9_island : Room := { frames := 6, cells := 0, slots := 0, locals := 134 }
set_option maxHeartbeats 4000000 in
theorem wX9_island (l : Launch) (g : GG) (ad : Nat → Nat) (S : MS) (Sf : MS) (rf : Int32) (hf : fX9_island S = some (Sf, rf)) : Met l yX9_island (ws_ yX9_island cX9_island 3 (some .int)) rX9_island (va_Pc [.ref (ad 0)] (fun U => PP g (WM g ad S) U.heap ∧ EV g U ∧ va_D (AM ad) (WM g ad S))) (va_Qi (fun y (_ : Unit) => y = rf) (fun _ t => PP g (WM g ad Sf) t.heap ∧ va_D (AM ad) (WM g ad Sf)) (AM ad)) 0 0 (AM ad) := by
  refine sm_st (by decide) ?_
  intro p e s m args below meth c hx hb hr hlocks hml hown hnm hts hv
  obtain ⟨hargs, hP, hE, hD⟩ := hv
  obtain ⟨hK, hN⟩ := id hE
  have hS : va_S (AM ad) s.heap s.heap [] := va_S.rf
  have hown : s.vm.findClass RX9 = some m.cls := hown
  refine sm_en _ (Nat.le_of_ble_eq_true rfl) hargs (fun ls hl => ?_)
  have hl : lv_has ls 3 [(0, .ref (ad 0))] := hl
  generalize hQ : MQ below _ args s _ _ _ = Q
  unfold fX9_island at hf
  refine lv_aload_n hx hb dX9_island_0 rfl (lv_at hl 0 rfl) ?_
  refine lv_iconst (v := 0) hx hb dX9_island_1 (by decide) ?_
  refine va_put (D := (g.1, g.2.1)) (ci := 9) (v := .int 0) (ty := .int) (C := RX9) (T := TX9) (N := 39) hx hb hts in_X9 tyX9 tyX9_ok nmX9 hown hK hP hD hS 0 rfl rfl 19 (by decide) (hts _ q875) (fun _ h9 => h9) rfl (by decide +kernel) rfl rfl (Nat.le_of_ble_eq_true rfl) dX9_island_2 (fun H locs hP hD hS => ?_)
  obtain ⟨S_1, eS_1, hf⟩ := sm_lt_e hf
  have hP : PP g (WM g ad S_1) H := by rw [eS_1]; exact pmf19 hP
  have hD : va_D (AM ad) (WM g ad S_1) := by rw [eS_1]; exact dmf19 hD
  refine lv_aload_n hx hb dX9_island_5 rfl (lv_at hl 0 rfl) ?_
  refine lv_iconst (v := 0) hx hb dX9_island_6 (by decide) ?_
  refine va_put (D := (g.1, g.2.1)) (ci := 9) (v := .int 0) (ty := .boolean) (C := RX9) (T := TX9) (N := 39) hx hb hts in_X9 tyX9 tyX9_ok nmX9 hown hK hP hD hS 0 rfl rfl 23 (by decide) (hts _ q879) (fun _ h9 => h9) rfl (by decide +kernel) rfl rfl (Nat.le_of_ble_eq_true rfl) dX9_island_7 (fun H locs hP hD hS => ?_)
  obtain ⟨S_2, eS_2, hf⟩ := sm_lt_e hf
  have hP : PP g (WM g ad S_2) H := by rw [eS_2]; exact pmf23 hP
  have hD : va_D (AM ad) (WM g ad S_2) := by rw [eS_2]; exact dmf23 hD
  refine lv_aload_n hx hb dX9_island_10 rfl (lv_at hl 0 rfl) ?_
  refine va_get (D := (g.1, g.2.1)) (ci := 9) (v := .ref (ad 28)) (C := RX9) (T := TX9) (N := 39) hx hb hts in_X9 hown hK hP 0 rfl rfl 28 (by decide) (hts _ q884) (fun _ h9 => h9) rfl dX9_island_11 ?_
  refine lv_iconst (v := 0) hx hb dX9_island_14 (by decide) ?_
  refine lv_bipush (v := 10) hx hb dX9_island_15 (by decide) ?_
  refine va_iast (i := 0) (x := 10) hx hb hK hP hD hS 12 0 rfl rfl (sm_in rfl) dX9_island_17 (fun H locs hP hD hS => ?_)
  obtain ⟨S_3, eS_3, hf⟩ := sm_lt_e hf
  have hP : PP g (WM g ad S_3) H := by rw [eS_3]; exact pmr28 hP
  have hD : va_D (AM ad) (WM g ad S_3) := by rw [eS_3]; exact dmr28 hD
  refine lv_aload_n hx hb dX9_island_18 rfl (lv_at hl 0 rfl) ?_
  refine va_get (D := (g.1, g.2.1)) (ci := 9) (v := .ref (ad 28)) (C := RX9) (T := TX9) (N := 39) hx hb hts in_X9 hown hK hP 0 rfl rfl 28 (by decide) (hts _ q884) (fun _ h9 => h9) rfl dX9_island_19 ?_
  refine lv_iconst (v := 1) hx hb dX9_island_22 (by decide) ?_
  refine lv_iconst (v := 2) hx hb dX9_island_23 (by decide) ?_
  refine va_iast (i := 1) (x := 2) hx hb hK hP hD hS 12 0 rfl rfl (sm_in rfl) dX9_island_24 (fun H locs hP hD hS => ?_)
  obtain ⟨S_4, eS_4, hf⟩ := sm_lt_e hf
  have hP : PP g (WM g ad S_4) H := by rw [eS_4]; exact pmr28 hP
  have hD : va_D (AM ad) (WM g ad S_4) := by rw [eS_4]; exact dmr28 hD
  refine lv_aload_n hx hb dX9_island_25 rfl (lv_at hl 0 rfl) ?_
  refine va_get (D := (g.1, g.2.1)) (ci := 9) (v := .ref (ad 28)) (C := RX9) (T := TX9) (N := 39) hx hb hts in_X9 hown hK hP 0 rfl rfl 28 (by decide) (hts _ q884) (fun _ h9 => h9) rfl dX9_island_26 ?_
  refine lv_iconst (v := 2) hx hb dX9_island_29 (by decide) ?_
  refine lv_iconst (v := 1) hx hb dX9_island_30 (by decide) ?_
  refine va_iast (i := 2) (x := 1) hx hb hK hP hD hS 12 0 rfl rfl (sm_in rfl) dX9_island_31 (fun H locs hP hD hS => ?_)
  obtain ⟨S_5, eS_5, hf⟩ := sm_lt_e hf
  have hP : PP g (WM g ad S_5) H := by rw [eS_5]; exact pmr28 hP
  have hD : va_D (AM ad) (WM g ad S_5) := by rw [eS_5]; exact dmr28 hD
  refine lv_aload_n hx hb dX9_island_32 rfl (lv_at hl 0 rfl) ?_
  refine lv_iconst (v := 0) hx hb dX9_island_33 (by decide) ?_
  refine va_put (D := (g.1, g.2.1)) (ci := 9) (v := .int 0) (ty := .int) (C := RX9) (T := TX9) (N := 39) hx hb hts in_X9 tyX9 tyX9_ok nmX9 hown hK hP hD hS 0 rfl rfl 29 (by decide) (hts _ q885) (fun _ h9 => h9) rfl (by decide +kernel) rfl rfl (Nat.le_of_ble_eq_true rfl) dX9_island_34 (fun H locs hP hD hS => ?_)
  obtain ⟨S_6, eS_6, hf⟩ := sm_lt_e hf
  have hP : PP g (WM g ad S_6) H := by rw [eS_6]; exact pmf29 hP
  have hD : va_D (AM ad) (WM g ad S_6) := by rw [eS_6]; exact dmf29 hD
  refine lv_aload_n hx hb dX9_island_37 rfl (lv_at hl 0 rfl) ?_
  refine lv_iconst (v := 0) hx hb dX9_island_38 (by decide) ?_
  refine va_put (D := (g.1, g.2.1)) (ci := 9) (v := .int 0) (ty := .int) (C := RX9) (T := TX9) (N := 39) hx hb hts in_X9 tyX9 tyX9_ok nmX9 hown hK hP hD hS 0 rfl rfl 24 (by decide) (hts _ q880) (fun _ h9 => h9) rfl (by decide +kernel) rfl rfl (Nat.le_of_ble_eq_true rfl) dX9_island_39 (fun H locs hP hD hS => ?_)
  obtain ⟨S_7, eS_7, hf⟩ := sm_lt_e hf
  have hP : PP g (WM g ad S_7) H := by rw [eS_7]; exact pmf24 hP
  have hD : va_D (AM ad) (WM g ad S_7) := by rw [eS_7]; exact dmf24 hD
  refine lv_aload_n hx hb dX9_island_42 rfl (lv_at hl 0 rfl) ?_
  refine lv_iconst (v := 0) hx hb dX9_island_43 (by decide) ?_
  refine va_put (D := (g.1, g.2.1)) (ci := 9) (v := .int 0) (ty := .int) (C := RX9) (T := TX9) (N := 39) hx hb hts in_X9 tyX9 tyX9_ok nmX9 hown hK hP hD hS 0 rfl rfl 26 (by decide) (hts _ q882) (fun _ h9 => h9) rfl (by decide +kernel) rfl rfl (Nat.le_of_ble_eq_true rfl) dX9_island_44 (fun H locs hP hD hS => ?_)
  obtain ⟨S_8, eS_8, hf⟩ := sm_lt_e hf
  have hP : PP g (WM g ad S_8) H := by rw [eS_8]; exact pmf26 hP
  have hD : va_D (AM ad) (WM g ad S_8) := by rw [eS_8]; exact dmf26 hD
  refine lv_iconst (v := 0) hx hb dX9_island_47 (by decide) ?_
  refine lv_istore_n (lv' := [(1, .int 0), (0, .ref (ad 0))]) hx hb dX9_island_48 rfl hl (by decide) rfl (fun ls hl => ?_)
  refine lv_aload_n hx hb dX9_island_49 rfl (lv_at hl 1 rfl) ?_
  obtain ⟨S_9, h_10, hf⟩ := sm_b1_e hf
  refine va_callv (va_runV (As := []) (rest := []) ⟨hx, hb, hml, hown, hts⟩ (wX9_next l g ad S_8  S_9 h_10) (cwV 0 hts (lw_V q990 q992 qs22 q70 q993) rfl rfl rfl (by decide +kernel) ⟨Nat.le_of_ble_eq_true rfl, Nat.le_of_ble_eq_true rfl⟩) (sm_pe hE hP hD (va_recv hK hP (ci := 9) (q0 := 0) rfl rfl)) rfl rfl hl.1 rfl (lv_room (Nat.le_of_ble_eq_true rfl)) dX9_island_50 ⟨Nat.le_of_ble_eq_true rfl, Nat.le_of_ble_eq_true rfl⟩) hS (fun _ _ h => h) (fun _ h => h) (fun u t H locs ht hvm er_11 hB hz hk hS => ?_)
  obtain ⟨hP, hD⟩ := hB
  rw [ht] at hP
  have L_20 : ∀ (n : Nat) (x_13 : Int32) (S_14 : MS) (o_21 : Int32) (o_22 : MS) (H : Heap) (locs : List Loc) (ls : Array Slot), sm_lp (fun q => fX9_island_53 q.1 q.2) n (x_13, S_14) = some (o_21, o_22) → PP g (WM g ad S_14) H → va_D (AM ad) (WM g ad S_14) → va_S (AM ad) s.heap H locs → lv_has ls 3 [(0, .ref (ad 0)), (1, .int x_13)] → (∀ (H : Heap) (locs : List Loc) (ls : Array Slot), PP g (WM g ad o_22) H → va_D (AM ad) (WM g ad o_22) → va_S (AM ad) s.heap H locs → lv_has ls 3 [(0, .ref (ad 0)), (1, .int o_21)] → W p l e rX9_island s m args below meth c H locs 0 0 Q (F0 m 77 ls [])) → W p l e rX9_island s m args below meth c H locs 0 0 Q (F0 m 53 ls []) := by
    intro n
    induction n with
    | zero =>
      intro _ _ _ _ _ _ _ hf
      cases hf
    | succ n ih_15 =>
      intro x_13 S_14 o_21 o_22 H locs ls hf hP hD hS hl kx_16
      obtain ⟨q, hf, hc_19⟩ := sm_bnd hf
      have hf : fX9_island_53 x_13 S_14 = some q := hf
      unfold fX9_island_53 at hf
      refine lv_aload_n hx hb dX9_island_53 rfl (lv_at hl 0 rfl) ?_
      refine va_get (D := (g.1, g.2.1)) (ci := 9) (v := .int (S_14.1 21)) (C := RX9) (T := TX9) (N := 39) hx hb hts in_X9 hown hK hP 0 rfl rfl 21 (by decide) (hts _ q877) (fun _ h9 => h9) rfl dX9_island_54 ?_
      refine lv_if_eq (tgt := 77) hx hb dX9_island_57 (by decide) (fun c_23 => ?_) (fun c_23 => ?_)
      · have hf := (if_pos c_23).symm.trans hf
        cases hf
        have hc_19 : some (x_13, S_14) = some (o_21, o_22) := hc_19
        cases hc_19
        exact kx_16 _ _ _ hP hD hS (lv_sub hl [0, 1] rfl)
      · have hf := (if_neg c_23).symm.trans hf
        refine lv_aload_n hx hb dX9_island_60 rfl (lv_at hl 0 rfl) ?_
        refine va_get (D := (g.1, g.2.1)) (ci := 9) (v := .int (S_14.1 23)) (C := RX9) (T := TX9) (N := 39) hx hb hts in_X9 hown hK hP 0 rfl rfl 23 (by decide) (hts _ q879) (fun _ h9 => h9) rfl dX9_island_61 ?_
        refine lv_if_ne (tgt := 77) hx hb dX9_island_64 (by decide) (fun c_24 => ?_) (fun c_24 => ?_)
        · have hf := (if_neg c_24).symm.trans hf
          cases hf
          have hc_19 : some (x_13, S_14) = some (o_21, o_22) := hc_19
          cases hc_19
          exact kx_16 _ _ _ hP hD hS (lv_sub hl [0, 1] rfl)
        · have hf := (if_pos c_24).symm.trans hf
          refine lv_aload_n hx hb dX9_island_67 rfl (lv_at hl 0 rfl) ?_
          obtain ⟨S_25, h_26, hf⟩ := sm_b1_e hf
          refine va_callv (va_runV (As := []) (rest := []) ⟨hx, hb, hml, hown, hts⟩ (wX9_readItem l g ad S_14  S_25 h_26) (cwV 0 hts (lw_V q998 q1000 qs24 q70 q1001) rfl rfl rfl (by decide +kernel) ⟨Nat.le_of_ble_eq_true rfl, Nat.le_of_ble_eq_true rfl⟩) (sm_pe hE hP hD (va_recv hK hP (ci := 9) (q0 := 0) rfl rfl)) rfl rfl hl.1 rfl (lv_room (Nat.le_of_ble_eq_true rfl)) dX9_island_68 ⟨Nat.le_of_ble_eq_true rfl, Nat.le_of_ble_eq_true rfl⟩) hS (fun _ _ h => h) (fun _ h => h) (fun u t H locs ht hvm er_27 hB hz hk hS => ?_)
          obtain ⟨hP, hD⟩ := hB
          rw [ht] at hP
          refine lv_iinc (v := x_13 + 1) (lv' := [(1, .int (x_13 + 1)), (0, .ref (ad 0))]) hx hb dX9_island_71 hl (k := 1) rfl rfl (by decide) rfl (fun ls hl => ?_)
          refine lv_goto (tgt := 53) hx hb dX9_island_74 (by decide) ?_
          cases hf
          exact ih_15 _ _ _ _ _ _ _ hc_19 hP hD hS (lv_sub hl [1, 0] rfl) kx_16
  obtain ⟨x_30, S_31, ho, hf⟩ := sm_b2_e hf
  refine L_20 FU 0 S_9 x_30 S_31 H locs ls ho hP hD hS (lv_sub hl [1, 0] rfl) ?_
  intro H locs ls hP hD hS hl
  refine lv_aload_n hx hb dX9_island_77 rfl (lv_at hl 0 rfl) ?_
  refine va_get (D := (g.1, g.2.1)) (ci := 9) (v := .int (S_31.1 23)) (C := RX9) (T := TX9) (N := 39) hx hb hts in_X9 hown hK hP 0 rfl rfl 23 (by decide) (hts _ q879) (fun _ h9 => h9) rfl dX9_island_78 ?_
  refine lv_if_eq (tgt := 92) hx hb dX9_island_81 (by decide) (fun c_32 => ?_) (fun c_32 => ?_)
  · have hf := (if_pos c_32).symm.trans hf
    refine lv_aload_n hx hb dX9_island_92 rfl (lv_at hl 0 rfl) ?_
    refine lv_aload_n hx hb dX9_island_93 rfl (lv_at hl 0 rfl) ?_
    refine va_get (D := (g.1, g.2.1)) (ci := 9) (v := .ref (ad 28)) (C := RX9) (T := TX9) (N := 39) hx hb hts in_X9 hown hK hP 0 rfl rfl 28 (by decide) (hts _ q884) (fun _ h9 => h9) rfl dX9_island_94 ?_
    refine lv_iconst (v := 0) hx hb dX9_island_97 (by decide) ?_
    refine va_iald hx hb hK hP 12 0 rfl rfl (sm_in rfl) dX9_island_98 ?_
    refine va_put (D := (g.1, g.2.1)) (ci := 9) (v := .int (S_31.2.1 28 0)) (ty := .int) (C := RX9) (T := TX9) (N := 39) hx hb hts in_X9 tyX9 tyX9_ok nmX9 hown hK hP hD hS 0 rfl rfl 0 (by decide) (hts _ q856) (fun _ h9 => h9) rfl (by decide +kernel) rfl rfl (Nat.le_of_ble_eq_true rfl) dX9_island_99 (fun H locs hP hD hS => ?_)
    obtain ⟨S_33, eS_33, hf⟩ := sm_lt_e hf
    have hP : PP g (WM g ad S_33) H := by rw [eS_33]; exact pmf0 hP
    have hD : va_D (AM ad) (WM g ad S_33) := by rw [eS_33]; exact dmf0 hD
    refine lv_aload_n hx hb dX9_island_102 rfl (lv_at hl 0 rfl) ?_
    refine lv_aload_n hx hb dX9_island_103 rfl (lv_at hl 0 rfl) ?_
    refine va_get (D := (g.1, g.2.1)) (ci := 9) (v := .ref (ad 28)) (C := RX9) (T := TX9) (N := 39) hx hb hts in_X9 hown hK hP 0 rfl rfl 28 (by decide) (hts _ q884) (fun _ h9 => h9) rfl dX9_island_104 ?_
    refine lv_iconst (v := 1) hx hb dX9_island_107 (by decide) ?_
    refine va_iald hx hb hK hP 12 0 rfl rfl (sm_in rfl) dX9_island_108 ?_
    refine va_put (D := (g.1, g.2.1)) (ci := 9) (v := .int (S_33.2.1 28 1)) (ty := .int) (C := RX9) (T := TX9) (N := 39) hx hb hts in_X9 tyX9 tyX9_ok nmX9 hown hK hP hD hS 0 rfl rfl 1 (by decide) (hts _ q857) (fun _ h9 => h9) rfl (by decide +kernel) rfl rfl (Nat.le_of_ble_eq_true rfl) dX9_island_109 (fun H locs hP hD hS => ?_)
    obtain ⟨S_34, eS_34, hf⟩ := sm_lt_e hf
    have hP : PP g (WM g ad S_34) H := by rw [eS_34]; exact pmf1 hP
    have hD : va_D (AM ad) (WM g ad S_34) := by rw [eS_34]; exact dmf1 hD
    refine lv_aload_n hx hb dX9_island_112 rfl (lv_at hl 0 rfl) ?_
    refine lv_aload_n hx hb dX9_island_113 rfl (lv_at hl 0 rfl) ?_
    refine va_get (D := (g.1, g.2.1)) (ci := 9) (v := .ref (ad 28)) (C := RX9) (T := TX9) (N := 39) hx hb hts in_X9 hown hK hP 0 rfl rfl 28 (by decide) (hts _ q884) (fun _ h9 => h9) rfl dX9_island_114 ?_
    refine lv_iconst (v := 2) hx hb dX9_island_117 (by decide) ?_
    refine va_iald hx hb hK hP 12 0 rfl rfl (sm_in rfl) dX9_island_118 ?_
    refine va_put (D := (g.1, g.2.1)) (ci := 9) (v := .int (S_34.2.1 28 2)) (ty := .int) (C := RX9) (T := TX9) (N := 39) hx hb hts in_X9 tyX9 tyX9_ok nmX9 hown hK hP hD hS 0 rfl rfl 2 (by decide) (hts _ q858) (fun _ h9 => h9) rfl (by decide +kernel) rfl rfl (Nat.le_of_ble_eq_true rfl) dX9_island_119 (fun H locs hP hD hS => ?_)
    obtain ⟨S_35, eS_35, hf⟩ := sm_lt_e hf
    have hP : PP g (WM g ad S_35) H := by rw [eS_35]; exact pmf2 hP
    have hD : va_D (AM ad) (WM g ad S_35) := by rw [eS_35]; exact dmf2 hD
    refine lv_aload_n hx hb dX9_island_122 rfl (lv_at hl 0 rfl) ?_
    refine lv_aload_n hx hb dX9_island_123 rfl (lv_at hl 0 rfl) ?_
    refine va_get (D := (g.1, g.2.1)) (ci := 9) (v := .int (S_35.1 24)) (C := RX9) (T := TX9) (N := 39) hx hb hts in_X9 hown hK hP 0 rfl rfl 24 (by decide) (hts _ q880) (fun _ h9 => h9) rfl dX9_island_124 ?_
    refine va_put (D := (g.1, g.2.1)) (ci := 9) (v := .int (S_35.1 24)) (ty := .int) (C := RX9) (T := TX9) (N := 39) hx hb hts in_X9 tyX9 tyX9_ok nmX9 hown hK hP hD hS 0 rfl rfl 3 (by decide) (hts _ q859) (fun _ h9 => h9) rfl (by decide +kernel) rfl rfl (Nat.le_of_ble_eq_true rfl) dX9_island_127 (fun H locs hP hD hS => ?_)
    obtain ⟨S_36, eS_36, hf⟩ := sm_lt_e hf
    have hP : PP g (WM g ad S_36) H := by rw [eS_36]; exact pmf3 hP
    have hD : va_D (AM ad) (WM g ad S_36) := by rw [eS_36]; exact dmf3 hD
    refine lv_aload_n hx hb dX9_island_130 rfl (lv_at hl 0 rfl) ?_
    refine lv_aload_n hx hb dX9_island_131 rfl (lv_at hl 0 rfl) ?_
    refine va_get (D := (g.1, g.2.1)) (ci := 9) (v := .int (S_36.1 26)) (C := RX9) (T := TX9) (N := 39) hx hb hts in_X9 hown hK hP 0 rfl rfl 26 (by decide) (hts _ q882) (fun _ h9 => h9) rfl dX9_island_132 ?_
    refine va_put (D := (g.1, g.2.1)) (ci := 9) (v := .int (S_36.1 26)) (ty := .int) (C := RX9) (T := TX9) (N := 39) hx hb hts in_X9 tyX9 tyX9_ok nmX9 hown hK hP hD hS 0 rfl rfl 5 (by decide) (hts _ q861) (fun _ h9 => h9) rfl (by decide +kernel) rfl rfl (Nat.le_of_ble_eq_true rfl) dX9_island_135 (fun H locs hP hD hS => ?_)
    obtain ⟨S_37, eS_37, hf⟩ := sm_lt_e hf
    have hP : PP g (WM g ad S_37) H := by rw [eS_37]; exact pmf5 hP
    have hD : va_D (AM ad) (WM g ad S_37) := by rw [eS_37]; exact dmf5 hD
    refine lv_iconst (v := 0) hx hb dX9_island_138 (by decide) ?_
    refine lv_istore_n (lv' := [(2, .int 0), (0, .ref (ad 0)), (1, .int x_30)]) hx hb dX9_island_139 rfl hl (by decide) rfl (fun ls hl => ?_)
    have L_45 : ∀ (n : Nat) (x_38 : Int32) (S_39 : MS) (o_46 : Int32) (o_47 : MS) (H : Heap) (locs : List Loc) (ls : Array Slot), sm_lp (fun q => fX9_island_140 q.1 q.2) n (x_38, S_39) = some (o_46, o_47) → PP g (WM g ad S_39) H → va_D (AM ad) (WM g ad S_39) → va_S (AM ad) s.heap H locs → lv_has ls 3 [(0, .ref (ad 0)), (1, .int x_30), (2, .int x_38)] → (∀ (H : Heap) (locs : List Loc) (ls : Array Slot), PP g (WM g ad o_47) H → va_D (AM ad) (WM g ad o_47) → va_S (AM ad) s.heap H locs → lv_has ls 3 [(0, .ref (ad 0)), (1, .int x_30), (2, .int o_46)] → W p l e rX9_island s m args below meth c H locs 0 0 Q (F0 m 176 ls [])) → W p l e rX9_island s m args below meth c H locs 0 0 Q (F0 m 140 ls []) := by
      intro n
      induction n with
      | zero =>
        intro _ _ _ _ _ _ _ hf
        cases hf
      | succ n ih_40 =>
        intro x_38 S_39 o_46 o_47 H locs ls hf hP hD hS hl kx_41
        obtain ⟨q, hf, hc_44⟩ := sm_bnd hf
        have hf : fX9_island_140 x_38 S_39 = some q := hf
        unfold fX9_island_140 at hf
        refine lv_iload_n hx hb dX9_island_140 rfl (lv_at hl 2 rfl) ?_
        refine lv_bipush (v := 12) hx hb dX9_island_141 (by decide) ?_
        refine lv_icmp_ge (tgt := 176) hx hb dX9_island_143 (by decide) (fun c_48 => ?_) (fun c_48 => ?_)
        · have hf := (if_pos c_48).symm.trans hf
          cases hf
          have hc_44 : some (x_38, S_39) = some (o_46, o_47) := hc_44
          cases hc_44
          exact kx_41 _ _ _ hP hD hS (lv_sub hl [0, 1, 2] rfl)
        · have hf := (if_neg c_48).symm.trans hf
          refine lv_aload_n hx hb dX9_island_146 rfl (lv_at hl 0 rfl) ?_
          refine va_get (D := (g.1, g.2.1)) (ci := 9) (v := .ref (ad 4)) (C := RX9) (T := TX9) (N := 39) hx hb hts in_X9 hown hK hP 0 rfl rfl 4 (by decide) (hts _ q860) (fun _ h9 => h9) rfl dX9_island_147 ?_
          refine lv_iload_n hx hb dX9_island_150 rfl (lv_at hl 2 rfl) ?_
          refine lv_aload_n hx hb dX9_island_151 rfl (lv_at hl 0 rfl) ?_
          refine va_get (D := (g.1, g.2.1)) (ci := 9) (v := .ref (ad 25)) (C := RX9) (T := TX9) (N := 39) hx hb hts in_X9 hown hK hP 0 rfl rfl 25 (by decide) (hts _ q881) (fun _ h9 => h9) rfl dX9_island_152 ?_
          refine lv_iload_n hx hb dX9_island_155 rfl (lv_at hl 2 rfl) ?_
          obtain ⟨hg, hf⟩ := sm_gd_e hf
          refine va_iald hx hb hK hP 10 0 rfl rfl (sm_in hg) dX9_island_156 ?_
          obtain ⟨hg, hf⟩ := sm_gd_e hf
          refine va_iast (i := x_38) (x := S_39.2.1 25 x_38.toNatClampNeg) hx hb hK hP hD hS 1 0 rfl rfl (sm_in hg) dX9_island_157 (fun H locs hP hD hS => ?_)
          obtain ⟨S_49, eS_49, hf⟩ := sm_lt_e hf
          have hP : PP g (WM g ad S_49) H := by rw [eS_49]; exact pmr4 hP
          have hD : va_D (AM ad) (WM g ad S_49) := by rw [eS_49]; exact dmr4 hD
          refine lv_aload_n hx hb dX9_island_158 rfl (lv_at hl 0 rfl) ?_
          refine va_get (D := (g.1, g.2.1)) (ci := 9) (v := .ref (ad 6)) (C := RX9) (T := TX9) (N := 39) hx hb hts in_X9 hown hK hP 0 rfl rfl 6 (by decide) (hts _ q862) (fun _ h9 => h9) rfl dX9_island_159 ?_
          refine lv_iload_n hx hb dX9_island_162 rfl (lv_at hl 2 rfl) ?_
          refine lv_aload_n hx hb dX9_island_163 rfl (lv_at hl 0 rfl) ?_
          refine va_get (D := (g.1, g.2.1)) (ci := 9) (v := .ref (ad 27)) (C := RX9) (T := TX9) (N := 39) hx hb hts in_X9 hown hK hP 0 rfl rfl 27 (by decide) (hts _ q883) (fun _ h9 => h9) rfl dX9_island_164 ?_
          refine lv_iload_n hx hb dX9_island_167 rfl (lv_at hl 2 rfl) ?_
          obtain ⟨hg, hf⟩ := sm_gd_e hf
          refine va_iald hx hb hK hP 11 0 rfl rfl (sm_in hg) dX9_island_168 ?_
          obtain ⟨hg, hf⟩ := sm_gd_e hf
          refine va_iast (i := x_38) (x := S_49.2.1 27 x_38.toNatClampNeg) hx hb hK hP hD hS 2 0 rfl rfl (sm_in hg) dX9_island_169 (fun H locs hP hD hS => ?_)
          obtain ⟨S_50, eS_50, hf⟩ := sm_lt_e hf
          have hP : PP g (WM g ad S_50) H := by rw [eS_50]; exact pmr6 hP
          have hD : va_D (AM ad) (WM g ad S_50) := by rw [eS_50]; exact dmr6 hD
          refine lv_iinc (v := x_38 + 1) (lv' := [(2, .int (x_38 + 1)), (0, .ref (ad 0)), (1, .int x_30)]) hx hb dX9_island_170 hl (k := 2) rfl rfl (by decide) rfl (fun ls hl => ?_)
          refine lv_goto (tgt := 140) hx hb dX9_island_173 (by decide) ?_
          cases hf
          exact ih_40 _ _ _ _ _ _ _ hc_44 hP hD hS (lv_sub hl [1, 2, 0] rfl) kx_41
    obtain ⟨x_52, S_53, ho, hf⟩ := sm_b2_e hf
    refine L_45 FU 0 S_37 x_52 S_53 H locs ls ho hP hD hS (lv_sub hl [1, 2, 0] rfl) ?_
    intro H locs ls hP hD hS hl
    refine lv_iconst (v := 0) hx hb dX9_island_176 (by decide) ?_
    refine lv_istore_n (lv' := [(2, .int 0), (0, .ref (ad 0)), (1, .int x_30)]) hx hb dX9_island_177 rfl hl (by decide) rfl (fun ls hl => ?_)
    have L_61 : ∀ (n : Nat) (x_54 : Int32) (S_55 : MS) (o_62 : Int32) (o_63 : MS) (H : Heap) (locs : List Loc) (ls : Array Slot), sm_lp (fun q => fX9_island_178 q.1 q.2) n (x_54, S_55) = some (o_62, o_63) → PP g (WM g ad S_55) H → va_D (AM ad) (WM g ad S_55) → va_S (AM ad) s.heap H locs → lv_has ls 3 [(0, .ref (ad 0)), (1, .int x_30), (2, .int x_54)] → (∀ (H : Heap) (locs : List Loc) (ls : Array Slot), PP g (WM g ad o_63) H → va_D (AM ad) (WM g ad o_63) → va_S (AM ad) s.heap H locs → lv_has ls 3 [(0, .ref (ad 0)), (1, .int x_30), (2, .int o_62)] → W p l e rX9_island s m args below meth c H locs 0 0 Q (F0 m 212 ls [])) → W p l e rX9_island s m args below meth c H locs 0 0 Q (F0 m 178 ls []) := by
      intro n
      induction n with
      | zero =>
        intro _ _ _ _ _ _ _ hf
        cases hf
      | succ n ih_56 =>
        intro x_54 S_55 o_62 o_63 H locs ls hf hP hD hS hl kx_57
        obtain ⟨q, hf, hc_60⟩ := sm_bnd hf
        have hf : fX9_island_178 x_54 S_55 = some q := hf
        unfold fX9_island_178 at hf
        refine lv_iload_n hx hb dX9_island_178 rfl (lv_at hl 2 rfl) ?_
        refine lv_bipush (v := 26) hx hb dX9_island_179 (by decide) ?_
        refine lv_icmp_ge (tgt := 212) hx hb dX9_island_181 (by decide) (fun c_64 => ?_) (fun c_64 => ?_)
        · have hf := (if_pos c_64).symm.trans hf
          cases hf
          have hc_60 : some (x_54, S_55) = some (o_62, o_63) := hc_60
          cases hc_60
          exact kx_57 _ _ _ hP hD hS (lv_sub hl [0, 1, 2] rfl)
        · have hf := (if_neg c_64).symm.trans hf
          refine lv_aload_n hx hb dX9_island_184 rfl (lv_at hl 0 rfl) ?_
          refine va_get (D := (g.1, g.2.1)) (ci := 9) (v := .ref (ad 7)) (C := RX9) (T := TX9) (N := 39) hx hb hts in_X9 hown hK hP 0 rfl rfl 7 (by decide) (hts _ q863) (fun _ h9 => h9) rfl dX9_island_185 ?_
          refine lv_iload_n hx hb dX9_island_188 rfl (lv_at hl 2 rfl) ?_
          refine lv_iload_n hx hb dX9_island_189 rfl (lv_at hl 2 rfl) ?_
          refine lv_iconst (v := 2) hx hb dX9_island_190 (by decide) ?_
          refine lv_bipush (v := 7) hx hb dX9_island_191 (by decide) ?_
          refine vp_callSi (W.runS (As := [.int x_54, .int 2, .int 7]) (rest := [.int x_54, .ref (ad 7)]) ⟨hx, hb, hml, hown, hts⟩ (wX9_in l x_54 2 7 (fX9_in x_54 2 7) rfl) (va_cwS 3 hts (lw_S q979 q980 q70 q981) rfl rfl rfl (by decide +kernel) ⟨Nat.le_of_ble_eq_true rfl, Nat.le_of_ble_eq_true rfl⟩) (sm_ps) rfl rfl hl.1 rfl (lv_room (Nat.le_of_ble_eq_true rfl)) dX9_island_193 ⟨Nat.le_of_ble_eq_true rfl, Nat.le_of_ble_eq_true rfl⟩) (fun r_66 er_65 => ?_)
          have er_65 := er_65.symm
          subst er_65
          obtain ⟨x_67, hf, hf0⟩ := sm_b1_e hf
          suffices hj_68 : ∀ (ls : Array Slot), lv_has ls 3 [(0, .ref (ad 0)), (1, .int x_30), (2, .int x_54)] → W p l e rX9_island s m args below meth c H locs 0 0 Q (F0 m 205 ls [.int x_67, .int x_54, .ref (ad 7)]) from by
            refine lv_if_eq (tgt := 204) hx hb dX9_island_196 (by decide) (fun c_69 => ?_) (fun c_69 => ?_)
            · have hf := (if_pos c_69).symm.trans hf
              refine lv_iconst (v := 0) hx hb dX9_island_204 (by decide) ?_
              cases hf
              exact hj_68 _ (lv_sub hl [0, 1, 2] rfl)
            · have hf := (if_neg c_69).symm.trans hf
              refine lv_bipush (v := (-9)) hx hb dX9_island_199 (by decide) ?_
              refine lv_goto (tgt := 205) hx hb dX9_island_201 (by decide) ?_
              cases hf
              exact hj_68 _ (lv_sub hl [0, 1, 2] rfl)
          intro ls hl
          have hf := hf0
          obtain ⟨hg, hf⟩ := sm_gd_e hf
          refine va_iast (i := x_54) (x := x_67) hx hb hK hP hD hS 3 0 rfl rfl (sm_in hg) dX9_island_205 (fun H locs hP hD hS => ?_)
          obtain ⟨S_70, eS_70, hf⟩ := sm_lt_e hf
          have hP : PP g (WM g ad S_70) H := by rw [eS_70]; exact pmr7 hP
          have hD : va_D (AM ad) (WM g ad S_70) := by rw [eS_70]; exact dmr7 hD
          refine lv_iinc (v := x_54 + 1) (lv' := [(2, .int (x_54 + 1)), (0, .ref (ad 0)), (1, .int x_30)]) hx hb dX9_island_206 hl (k := 2) rfl rfl (by decide) rfl (fun ls hl => ?_)
          refine lv_goto (tgt := 178) hx hb dX9_island_209 (by decide) ?_
          cases hf
          exact ih_56 _ _ _ _ _ _ _ hc_60 hP hD hS (lv_sub hl [1, 2, 0] rfl) kx_57
    obtain ⟨x_72, S_73, ho, hf⟩ := sm_b2_e hf
    refine L_61 FU 0 S_53 x_72 S_73 H locs ls ho hP hD hS (lv_sub hl [1, 2, 0] rfl) ?_
    intro H locs ls hP hD hS hl
    refine lv_aload_n hx hb dX9_island_212 rfl (lv_at hl 0 rfl) ?_
    refine lv_iconst (v := 0) hx hb dX9_island_213 (by decide) ?_
    refine va_put (D := (g.1, g.2.1)) (ci := 9) (v := .int 0) (ty := .int) (C := RX9) (T := TX9) (N := 39) hx hb hts in_X9 tyX9 tyX9_ok nmX9 hown hK hP hD hS 0 rfl rfl 9 (by decide) (hts _ q865) (fun _ h9 => h9) rfl (by decide +kernel) rfl rfl (Nat.le_of_ble_eq_true rfl) dX9_island_214 (fun H locs hP hD hS => ?_)
    obtain ⟨S_74, eS_74, hf⟩ := sm_lt_e hf
    have hP : PP g (WM g ad S_74) H := by rw [eS_74]; exact pmf9 hP
    have hD : va_D (AM ad) (WM g ad S_74) := by rw [eS_74]; exact dmf9 hD
    refine lv_aload_n hx hb dX9_island_217 rfl (lv_at hl 0 rfl) ?_
    refine lv_iconst (v := 0) hx hb dX9_island_218 (by decide) ?_
    refine va_put (D := (g.1, g.2.1)) (ci := 9) (v := .int 0) (ty := .int) (C := RX9) (T := TX9) (N := 39) hx hb hts in_X9 tyX9 tyX9_ok nmX9 hown hK hP hD hS 0 rfl rfl 12 (by decide) (hts _ q868) (fun _ h9 => h9) rfl (by decide +kernel) rfl rfl (Nat.le_of_ble_eq_true rfl) dX9_island_219 (fun H locs hP hD hS => ?_)
    obtain ⟨S_75, eS_75, hf⟩ := sm_lt_e hf
    have hP : PP g (WM g ad S_75) H := by rw [eS_75]; exact pmf12 hP
    have hD : va_D (AM ad) (WM g ad S_75) := by rw [eS_75]; exact dmf12 hD
    refine lv_aload_n hx hb dX9_island_222 rfl (lv_at hl 0 rfl) ?_
    refine va_get (D := (g.1, g.2.1)) (ci := 9) (v := .ref (ad 11)) (C := RX9) (T := TX9) (N := 39) hx hb hts in_X9 hown hK hP 0 rfl rfl 11 (by decide) (hts _ q867) (fun _ h9 => h9) rfl dX9_island_223 ?_
    refine lv_iconst (v := 0) hx hb dX9_island_226 (by decide) ?_
    refine lv_iconst (v := 0) hx hb dX9_island_227 (by decide) ?_
    refine va_zast (i := 0) (x := 0) hx hb hK hP hD hS 6 2 rfl rfl (sm_in rfl) dX9_island_228 (fun H locs hP hD hS => ?_)
    obtain ⟨S_76, eS_76, hf⟩ := sm_lt_e hf
    have hP : PP g (WM g ad S_76) H := by rw [eS_76]; exact pmr11 hP
    have hD : va_D (AM ad) (WM g ad S_76) := by rw [eS_76]; exact dmr11 hD
    refine lv_aload_n hx hb dX9_island_229 rfl (lv_at hl 0 rfl) ?_
    refine va_get (D := (g.1, g.2.1)) (ci := 9) (v := .ref (ad 11)) (C := RX9) (T := TX9) (N := 39) hx hb hts in_X9 hown hK hP 0 rfl rfl 11 (by decide) (hts _ q867) (fun _ h9 => h9) rfl dX9_island_230 ?_
    refine lv_iconst (v := 1) hx hb dX9_island_233 (by decide) ?_
    refine lv_iconst (v := 0) hx hb dX9_island_234 (by decide) ?_
    refine va_zast (i := 1) (x := 0) hx hb hK hP hD hS 6 2 rfl rfl (sm_in rfl) dX9_island_235 (fun H locs hP hD hS => ?_)
    obtain ⟨S_77, eS_77, hf⟩ := sm_lt_e hf
    have hP : PP g (WM g ad S_77) H := by rw [eS_77]; exact pmr11 hP
    have hD : va_D (AM ad) (WM g ad S_77) := by rw [eS_77]; exact dmr11 hD
    refine lv_aload_n hx hb dX9_island_236 rfl (lv_at hl 0 rfl) ?_
    refine lv_iconst (v := 0) hx hb dX9_island_237 (by decide) ?_
    refine va_put (D := (g.1, g.2.1)) (ci := 9) (v := .int 0) (ty := .int) (C := RX9) (T := TX9) (N := 39) hx hb hts in_X9 tyX9 tyX9_ok nmX9 hown hK hP hD hS 0 rfl rfl 18 (by decide) (hts _ q874) (fun _ h9 => h9) rfl (by decide +kernel) rfl rfl (Nat.le_of_ble_eq_true rfl) dX9_island_238 (fun H locs hP hD hS => ?_)
    obtain ⟨S_78, eS_78, hf⟩ := sm_lt_e hf
    have hP : PP g (WM g ad S_78) H := by rw [eS_78]; exact pmf18 hP
    have hD : va_D (AM ad) (WM g ad S_78) := by rw [eS_78]; exact dmf18 hD
    refine lv_iload_n hx hb dX9_island_241 rfl (lv_at hl 1 rfl) ?_
    have hf := Option.some.inj hf
    rw [← hQ]
    have hf := Prod.mk.inj hf
    exact W.iret (v := x_30) hx hb hr (fun t ht hW => ⟨⟨_, (), rfl, hf.2, by rw [ht, ← hf.1]; exact hP, by rw [← hf.1]; exact hD⟩, hS.F ht⟩) hS.2.2 dX9_island_242
  · have hf := (if_neg c_32).symm.trans hf
    refine lv_bipush (v := (-10)) hx hb dX9_island_84 (by decide) ?_
    refine lv_aload_n hx hb dX9_island_86 rfl (lv_at hl 0 rfl) ?_
    refine va_get (D := (g.1, g.2.1)) (ci := 9) (v := .int (S_31.1 20)) (C := RX9) (T := TX9) (N := 39) hx hb hts in_X9 hown hK hP 0 rfl rfl 20 (by decide) (hts _ q876) (fun _ h9 => h9) rfl dX9_island_87 ?_
    refine lv_isub hx hb dX9_island_90 ?_
    have hf := Option.some.inj hf
    rw [← hQ]
    have hf := Prod.mk.inj hf
    exact W.iret (v := (-10) - (S_31.1 20)) hx hb hr (fun t ht hW => ⟨⟨_, (), rfl, hf.2, by rw [ht, ← hf.1]; exact hP, by rw [← hf.1]; exact hD⟩, hS.F ht⟩) hS.2.2 dX9_island_91
