/-! SmokedLettersModel, walked: printed by gen/model.py -/
set_option maxRecDepth 100000
abbrev rX9_isRow : Room := { frames := 1, cells := 0, slots := 0, locals := 22 }
set_option maxHeartbeats 4000000 in
theorem wX9_isRow (l : Launch) (g : GG) (ad : Nat → Nat) (S : MS) (a1 : Int32) (rf : Int32) (hf : fX9_isRow S a1 = rf) : Met l yX9_isRow (ws_ yX9_isRow cX9_isRow 2 (some .boolean)) rX9_isRow (va_Pc [.ref (ad 0), .int a1] (fun U => PP g (WM g ad S) U.heap ∧ EV g U)) (vp_Si (fun y => y = rf)) 0 0 (fun _ => False) := by
  refine sm_st (by decide) ?_
  intro p e s m args below meth c hx hb hr hlocks hml hown hnm hts hv
  obtain ⟨hargs, hP, hE⟩ := hv
  obtain ⟨hK, hN⟩ := id hE
  have hown : s.vm.findClass RX9 = some m.cls := hown
  refine sm_en _ (Nat.le_of_ble_eq_true rfl) hargs (fun ls hl => ?_)
  have hl : lv_has ls 2 [(0, .ref (ad 0)), (1, .int a1)] := hl
  generalize hQ : MQ below _ args s _ _ _ = Q
  unfold fX9_isRow at hf
  refine lv_iload_n hx hb dX9_isRow_0 rfl (lv_at hl 1 rfl) ?_
  refine lv_iconst (v := 0) hx hb dX9_isRow_1 (by decide) ?_
  refine lv_aload_n hx hb dX9_isRow_2 rfl (lv_at hl 0 rfl) ?_
  refine va_get (D := (g.1, g.2.1)) (ci := 9) (v := .int (S.1 1)) (C := RX9) (T := TX9) (N := 39) hx hb hts in_X9 hown hK hP 0 rfl rfl 1 (by decide) (hts _ q857) (fun _ h9 => h9) rfl dX9_isRow_3 ?_
  refine lv_iconst (v := 1) hx hb dX9_isRow_6 (by decide) ?_
  refine lv_isub hx hb dX9_isRow_7 ?_
  refine vp_callSi (W.runS (As := [.int a1, .int 0, .int ((S.1 1) - 1)]) (rest := []) ⟨hx, hb, hml, hown, hts⟩ (wX9_in l a1 0 ((S.1 1) - 1) (fX9_in a1 0 ((S.1 1) - 1)) rfl) (va_cwS 3 hts (lw_S q979 q980 q70 q981) rfl rfl rfl (by decide +kernel) ⟨Nat.le_of_ble_eq_true rfl, Nat.le_of_ble_eq_true rfl⟩) (sm_ps) rfl rfl hl.1 rfl (lv_room (Nat.le_of_ble_eq_true rfl)) dX9_isRow_8 ⟨Nat.le_of_ble_eq_true rfl, Nat.le_of_ble_eq_true rfl⟩) (fun r_2 er_1 => ?_)
  have er_1 := er_1.symm
  subst er_1
  rw [← hQ]
  exact W.zret (v := fX9_in a1 0 ((S.1 1) - 1)) hx hb hr (sm_bz_nar (bX9_in a1 0 ((S.1 1) - 1))) (fun t ht hW => ⟨_, rfl, hf, ht⟩) (fun _ h => by cases h) dX9_isRow_11
abbrev rX9_isTraveller : Room := { frames := 1, cells := 0, slots := 0, locals := 22 }
set_option maxHeartbeats 4000000 in
theorem wX9_isTraveller (l : Launch) (g : GG) (ad : Nat → Nat) (S : MS) (a1 : Int32) (rf : Int32) (hf : fX9_isTraveller S a1 = rf) : Met l yX9_isTraveller (ws_ yX9_isTraveller cX9_isTraveller 2 (some .boolean)) rX9_isTraveller (va_Pc [.ref (ad 0), .int a1] (fun U => PP g (WM g ad S) U.heap ∧ EV g U)) (vp_Si (fun y => y = rf)) 0 0 (fun _ => False) := by
  refine sm_st (by decide) ?_
  intro p e s m args below meth c hx hb hr hlocks hml hown hnm hts hv
  obtain ⟨hargs, hP, hE⟩ := hv
  obtain ⟨hK, hN⟩ := id hE
  have hown : s.vm.findClass RX9 = some m.cls := hown
  refine sm_en _ (Nat.le_of_ble_eq_true rfl) hargs (fun ls hl => ?_)
  have hl : lv_has ls 2 [(0, .ref (ad 0)), (1, .int a1)] := hl
  generalize hQ : MQ below _ args s _ _ _ = Q
  unfold fX9_isTraveller at hf
  refine lv_iload_n hx hb dX9_isTraveller_0 rfl (lv_at hl 1 rfl) ?_
  refine lv_iconst (v := 0) hx hb dX9_isTraveller_1 (by decide) ?_
  refine lv_aload_n hx hb dX9_isTraveller_2 rfl (lv_at hl 0 rfl) ?_
  refine va_get (D := (g.1, g.2.1)) (ci := 9) (v := .int (S.1 3)) (C := RX9) (T := TX9) (N := 39) hx hb hts in_X9 hown hK hP 0 rfl rfl 3 (by decide) (hts _ q859) (fun _ h9 => h9) rfl dX9_isTraveller_3 ?_
  refine lv_iconst (v := 1) hx hb dX9_isTraveller_6 (by decide) ?_
  refine lv_isub hx hb dX9_isTraveller_7 ?_
  refine vp_callSi (W.runS (As := [.int a1, .int 0, .int ((S.1 3) - 1)]) (rest := []) ⟨hx, hb, hml, hown, hts⟩ (wX9_in l a1 0 ((S.1 3) - 1) (fX9_in a1 0 ((S.1 3) - 1)) rfl) (va_cwS 3 hts (lw_S q979 q980 q70 q981) rfl rfl rfl (by decide +kernel) ⟨Nat.le_of_ble_eq_true rfl, Nat.le_of_ble_eq_true rfl⟩) (sm_ps) rfl rfl hl.1 rfl (lv_room (Nat.le_of_ble_eq_true rfl)) dX9_isTraveller_8 ⟨Nat.le_of_ble_eq_true rfl, Nat.le_of_ble_eq_true rfl⟩) (fun r_2 er_1 => ?_)
  have er_1 := er_1.symm
  subst er_1
  rw [← hQ]
  exact W.zret (v := fX9_in a1 0 ((S.1 3) - 1)) hx hb hr (sm_bz_nar (bX9_in a1 0 ((S.1 3) - 1))) (fun t ht hW => ⟨_, rfl, hf, ht⟩) (fun _ h => by cases h) dX9_isTraveller_11
abbrev rX9_keep : Room := { frames := 1, cells := 0, slots := 0, locals := 22 }
set_option maxHeartbeats 4000000 in
theorem wX9_keep (l : Launch) (g : GG) (ad : Nat → Nat) (S : MS) (a1 : Int32) (Sf : MS) (rf : Int32) (hf : fX9_keep S a1 = some (Sf, rf)) : Met l yX9_keep (ws_ yX9_keep cX9_keep 3 (some .int)) rX9_keep (va_Pc [.ref (ad 0), .int a1] (fun U => PP g (WM g ad S) U.heap ∧ EV g U ∧ va_D (AM ad) (WM g ad S))) (va_Qi (fun y (_ : Unit) => y = rf) (fun _ t => PP g (WM g ad Sf) t.heap ∧ va_D (AM ad) (WM g ad Sf)) (AM ad)) 0 0 (AM ad) := by
  refine sm_st (by decide) ?_
  intro p e s m args below meth c hx hb hr hlocks hml hown hnm hts hv
  obtain ⟨hargs, hP, hE, hD⟩ := hv
  obtain ⟨hK, hN⟩ := id hE
  have hS : va_S (AM ad) s.heap s.heap [] := va_S.rf
  have hown : s.vm.findClass RX9 = some m.cls := hown
  refine sm_en _ (Nat.le_of_ble_eq_true rfl) hargs (fun ls hl => ?_)
  have hl : lv_has ls 3 [(0, .ref (ad 0)), (1, .int a1)] := hl
  generalize hQ : MQ below _ args s _ _ _ = Q
  unfold fX9_keep at hf
  refine lv_iload_n hx hb dX9_keep_0 rfl (lv_at hl 1 rfl) ?_
  refine lv_iconst (v := 0) hx hb dX9_keep_1 (by decide) ?_
  refine lv_iconst (v := 1) hx hb dX9_keep_2 (by decide) ?_
  refine vp_callSi (W.runS (As := [.int a1, .int 0, .int 1]) (rest := []) ⟨hx, hb, hml, hown, hts⟩ (wX9_in l a1 0 1 (fX9_in a1 0 1) rfl) (va_cwS 3 hts (lw_S q979 q980 q70 q981) rfl rfl rfl (by decide +kernel) ⟨Nat.le_of_ble_eq_true rfl, Nat.le_of_ble_eq_true rfl⟩) (sm_ps) rfl rfl hl.1 rfl (lv_room (Nat.le_of_ble_eq_true rfl)) dX9_keep_3 ⟨Nat.le_of_ble_eq_true rfl, Nat.le_of_ble_eq_true rfl⟩) (fun r_2 er_1 => ?_)
  have er_1 := er_1.symm
  subst er_1
  refine lv_if_ne (tgt := 11) hx hb dX9_keep_6 (by decide) (fun c_3 => ?_) (fun c_3 => ?_)
  · have hf := (if_neg c_3).symm.trans hf
    refine lv_iconst (v := 0) hx hb dX9_keep_11 (by decide) ?_
    refine lv_istore_n (lv' := [(2, .int 0), (0, .ref (ad 0)), (1, .int a1)]) hx hb dX9_keep_12 rfl hl (by decide) rfl (fun ls hl => ?_)
    have L_11 : ∀ (n : Nat) (x_4 : Int32) (S_5 : MS) (o_12 : Int32) (o_13 : MS) (H : Heap) (locs : List Loc) (ls : Array Slot), sm_lp (fun q => fX9_keep_13 a1 q.1 q.2) n (x_4, S_5) = some (o_12, o_13) → PP g (WM g ad S_5) H → va_D (AM ad) (WM g ad S_5) → va_S (AM ad) s.heap H locs → lv_has ls 3 [(0, .ref (ad 0)), (1, .int a1), (2, .int x_4)] → (∀ (H : Heap) (locs : List Loc) (ls : Array Slot), PP g (WM g ad o_13) H → va_D (AM ad) (WM g ad o_13) → va_S (AM ad) s.heap H locs → lv_has ls 3 [(0, .ref (ad 0)), (1, .int a1), (2, .int o_12)] → W p l e rX9_keep s m args below meth c H locs 0 0 Q (F0 m 42 ls [])) → W p l e rX9_keep s m args below meth c H locs 0 0 Q (F0 m 13 ls []) := by
      intro n
      induction n with
      | zero =>
        intro _ _ _ _ _ _ _ hf
        cases hf
      | succ n ih_6 =>
        intro x_4 S_5 o_12 o_13 H locs ls hf hP hD hS hl kx_7
        obtain ⟨q, hf, hc_10⟩ := sm_bnd hf
        have hf : fX9_keep_13 a1 x_4 S_5 = some q := hf
        unfold fX9_keep_13 at hf
        refine lv_iload_n hx hb dX9_keep_13 rfl (lv_at hl 2 rfl) ?_
        refine lv_bipush (v := 26) hx hb dX9_keep_14 (by decide) ?_
        refine lv_icmp_ge (tgt := 42) hx hb dX9_keep_16 (by decide) (fun c_14 => ?_) (fun c_14 => ?_)
        · have hf := (if_pos c_14).symm.trans hf
          cases hf
          have hc_10 : some (x_4, S_5) = some (o_12, o_13) := hc_10
          cases hc_10
          exact kx_7 _ _ _ hP hD hS (lv_sub hl [0, 1, 2] rfl)
        · have hf := (if_neg c_14).symm.trans hf
          refine lv_aload_n hx hb dX9_keep_19 rfl (lv_at hl 0 rfl) ?_
          refine va_get (D := (g.1, g.2.1)) (ci := 9) (v := .ref (ad 10)) (C := RX9) (T := TX9) (N := 39) hx hb hts in_X9 hown hK hP 0 rfl rfl 10 (by decide) (hts _ q866) (fun _ h9 => h9) rfl dX9_keep_20 ?_
          refine lv_bipush (v := 26) hx hb dX9_keep_23 (by decide) ?_
          refine lv_iload_n hx hb dX9_keep_25 rfl (lv_at hl 1 rfl) ?_
          refine lv_imul hx hb dX9_keep_26 ?_
          refine lv_iload_n hx hb dX9_keep_27 rfl (lv_at hl 2 rfl) ?_
          refine lv_iadd hx hb dX9_keep_28 ?_
          refine lv_aload_n hx hb dX9_keep_29 rfl (lv_at hl 0 rfl) ?_
          refine va_get (D := (g.1, g.2.1)) (ci := 9) (v := .ref (ad 7)) (C := RX9) (T := TX9) (N := 39) hx hb hts in_X9 hown hK hP 0 rfl rfl 7 (by decide) (hts _ q863) (fun _ h9 => h9) rfl dX9_keep_30 ?_
          refine lv_iload_n hx hb dX9_keep_33 rfl (lv_at hl 2 rfl) ?_
          obtain ⟨hg, hf⟩ := sm_gd_e hf
          refine va_iald hx hb hK hP 3 0 rfl rfl (sm_in hg) dX9_keep_34 ?_
          obtain ⟨hg, hf⟩ := sm_gd_e hf
          refine va_iast (i := (26 * a1) + x_4) (x := S_5.2.1 7 x_4.toNatClampNeg) hx hb hK hP hD hS 5 0 rfl rfl (sm_in hg) dX9_keep_35 (fun H locs hP hD hS => ?_)
          obtain ⟨S_15, eS_15, hf⟩ := sm_lt_e hf
          have hP : PP g (WM g ad S_15) H := by rw [eS_15]; exact pmr10 hP
          have hD : va_D (AM ad) (WM g ad S_15) := by rw [eS_15]; exact dmr10 hD
          refine lv_iinc (v := x_4 + 1) (lv' := [(2, .int (x_4 + 1)), (0, .ref (ad 0)), (1, .int a1)]) hx hb dX9_keep_36 hl (k := 2) rfl rfl (by decide) rfl (fun ls hl => ?_)
          refine lv_goto (tgt := 13) hx hb dX9_keep_39 (by decide) ?_
          cases hf
          exact ih_6 _ _ _ _ _ _ _ hc_10 hP hD hS (lv_sub hl [1, 2, 0] rfl) kx_7
    obtain ⟨x_17, S_18, ho, hf⟩ := sm_b2_e hf
    refine L_11 FU 0 S x_17 S_18 s.heap [] ls ho hP hD hS (lv_sub hl [1, 2, 0] rfl) ?_
    intro H locs ls hP hD hS hl
    refine lv_aload_n hx hb dX9_keep_42 rfl (lv_at hl 0 rfl) ?_
    refine va_get (D := (g.1, g.2.1)) (ci := 9) (v := .ref (ad 11)) (C := RX9) (T := TX9) (N := 39) hx hb hts in_X9 hown hK hP 0 rfl rfl 11 (by decide) (hts _ q867) (fun _ h9 => h9) rfl dX9_keep_43 ?_
    refine lv_iload_n hx hb dX9_keep_46 rfl (lv_at hl 1 rfl) ?_
    refine lv_iconst (v := 1) hx hb dX9_keep_47 (by decide) ?_
    obtain ⟨hg, hf⟩ := sm_gd_e hf
    refine va_zast (i := a1) (x := 1) hx hb hK hP hD hS 6 2 rfl rfl (sm_in hg) dX9_keep_48 (fun H locs hP hD hS => ?_)
    obtain ⟨S_19, eS_19, hf⟩ := sm_lt_e hf
    have hP : PP g (WM g ad S_19) H := by rw [eS_19]; exact pmr11 hP
    have hD : va_D (AM ad) (WM g ad S_19) := by rw [eS_19]; exact dmr11 hD
    refine lv_aload_n hx hb dX9_keep_49 rfl (lv_at hl 0 rfl) ?_
    refine va_get (D := (g.1, g.2.1)) (ci := 9) (v := .ref (ad 7)) (C := RX9) (T := TX9) (N := 39) hx hb hts in_X9 hown hK hP 0 rfl rfl 7 (by decide) (hts _ q863) (fun _ h9 => h9) rfl dX9_keep_50 ?_
    refine lv_iconst (v := 0) hx hb dX9_keep_53 (by decide) ?_
    refine va_iald hx hb hK hP 3 0 rfl rfl (sm_in rfl) dX9_keep_54 ?_
    have hf := Option.some.inj hf
    rw [← hQ]
    have hf := Prod.mk.inj hf
    exact W.iret (v := S_19.2.1 7 0) hx hb hr (fun t ht hW => ⟨⟨_, (), rfl, hf.2, by rw [ht, ← hf.1]; exact hP, by rw [← hf.1]; exact hD⟩, hS.F ht⟩) hS.2.2 dX9_keep_55
  · have hf := (if_pos c_3).symm.trans hf
    refine lv_iconst (v := (-1)) hx hb dX9_keep_9 (by decide) ?_
    have hf := Option.some.inj hf
    rw [← hQ]
    have hf := Prod.mk.inj hf
    exact W.iret (v := (-1)) hx hb hr (fun t ht hW => ⟨⟨_, (), rfl, hf.2, by rw [ht, ← hf.1]; exact hP, by rw [← hf.1]; exact hD⟩, hS.F ht⟩) hS.2.2 dX9_keep_10
abbrev rX9_late : Room := { frames := 0, cells := 0, slots := 0, locals := 0 }
set_option maxHeartbeats 4000000 in
theorem wX9_late (l : Launch) (g : GG) (ad : Nat → Nat) (S : MS) (rf : Int32) (hf : fX9_late S = some rf) : Met l yX9_late (ws_ yX9_late cX9_late 4 (some .int)) rX9_late (va_Pc [.ref (ad 0)] (fun U => PP g (WM g ad S) U.heap ∧ EV g U)) (vp_Si (fun y => y = rf)) 0 0 (fun _ => False) := by
  refine sm_st (by decide) ?_
  intro p e s m args below meth c hx hb hr hlocks hml hown hnm hts hv
  obtain ⟨hargs, hP, hE⟩ := hv
  obtain ⟨hK, hN⟩ := id hE
  have hown : s.vm.findClass RX9 = some m.cls := hown
  refine sm_en _ (Nat.le_of_ble_eq_true rfl) hargs (fun ls hl => ?_)
  have hl : lv_has ls 4 [(0, .ref (ad 0))] := hl
  generalize hQ : MQ below _ args s _ _ _ = Q
  unfold fX9_late at hf
  refine lv_iconst (v := 0) hx hb dX9_late_0 (by decide) ?_
  refine lv_istore_n (lv' := [(1, .int 0), (0, .ref (ad 0))]) hx hb dX9_late_1 rfl hl (by decide) rfl (fun ls hl => ?_)
  refine lv_iconst (v := 0) hx hb dX9_late_2 (by decide) ?_
  refine lv_istore_n (lv' := [(2, .int 0), (1, .int 0), (0, .ref (ad 0))]) hx hb dX9_late_3 rfl hl (by decide) rfl (fun ls hl => ?_)
  refine lv_iconst (v := 0) hx hb dX9_late_4 (by decide) ?_
  refine lv_istore_n (lv' := [(3, .int 0), (2, .int 0), (1, .int 0), (0, .ref (ad 0))]) hx hb dX9_late_5 rfl hl (by decide) rfl (fun ls hl => ?_)
  have L_9 : ∀ (n : Nat) (x_1 : Int32) (x_2 : Int32) (x_3 : Int32) (o_10 : Int32) (o_11 : Int32) (o_12 : Int32) (ls : Array Slot), sm_lp (fun q => fX9_late_6 S q.1 q.2.1 q.2.2) n (x_1, x_2, x_3) = some (o_10, o_11, o_12) → lv_has ls 4 [(0, .ref (ad 0)), (3, .int x_1), (2, .int x_2), (1, .int x_3)] → (∀ (ls : Array Slot), lv_has ls 4 [(0, .ref (ad 0)), (3, .int o_10), (2, .int o_11), (1, .int o_12)] → W p l e rX9_late s m args below meth c s.heap [] 0 0 Q (F0 m 50 ls [])) → W p l e rX9_late s m args below meth c s.heap [] 0 0 Q (F0 m 6 ls []) := by
    intro n
    induction n with
    | zero =>
      intro _ _ _ _ _ _ _ hf
      cases hf
    | succ n ih_4 =>
      intro x_1 x_2 x_3 o_10 o_11 o_12 ls hf hl kx_5
      obtain ⟨q, hf, hc_8⟩ := sm_bnd hf
      have hf : fX9_late_6 S x_1 x_2 x_3 = some q := hf
      unfold fX9_late_6 at hf
      refine lv_iload_n hx hb dX9_late_6 rfl (lv_at hl 1 rfl) ?_
      refine lv_aload_n hx hb dX9_late_7 rfl (lv_at hl 0 rfl) ?_
      refine va_get (D := (g.1, g.2.1)) (ci := 9) (v := .int (S.1 3)) (C := RX9) (T := TX9) (N := 39) hx hb hts in_X9 hown hK hP 0 rfl rfl 3 (by decide) (hts _ q859) (fun _ h9 => h9) rfl dX9_late_8 ?_
      refine lv_icmp_ge (tgt := 50) hx hb dX9_late_11 (by decide) (fun c_13 => ?_) (fun c_13 => ?_)
      · have hf := (if_pos c_13).symm.trans hf
        cases hf
        have hc_8 : some (x_1, x_2, x_3) = some (o_10, o_11, o_12) := hc_8
        cases hc_8
        exact kx_5 _ (lv_sub hl [0, 1, 2, 3] rfl)
      · have hf := (if_neg c_13).symm.trans hf
        refine lv_aload_n hx hb dX9_late_14 rfl (lv_at hl 0 rfl) ?_
        refine va_get (D := (g.1, g.2.1)) (ci := 9) (v := .ref (ad 33)) (C := RX9) (T := TX9) (N := 39) hx hb hts in_X9 hown hK hP 0 rfl rfl 33 (by decide) (hts _ q889) (fun _ h9 => h9) rfl dX9_late_15 ?_
        refine lv_iload_n hx hb dX9_late_18 rfl (lv_at hl 1 rfl) ?_
        obtain ⟨hg, hf⟩ := sm_gd_e hf
        refine va_iald hx hb hK hP 16 0 rfl rfl (sm_in hg) dX9_late_19 ?_
        refine lv_iload_n hx hb dX9_late_20 rfl (lv_at hl 3 rfl) ?_
        obtain ⟨x_14, hf, hf0⟩ := sm_b1_e hf
        suffices hj_15 : ∀ (ls : Array Slot), lv_has ls 4 [(0, .ref (ad 0)), (3, .int x_1), (2, .int x_2), (1, .int x_3)] → W p l e rX9_late s m args below meth c s.heap [] 0 0 Q (F0 m 34 ls [.int x_14]) from by
          refine lv_icmp_le (tgt := 33) hx hb dX9_late_21 (by decide) (fun c_16 => ?_) (fun c_16 => ?_)
          · have hf := (if_pos c_16).symm.trans hf
            refine lv_iload_n hx hb dX9_late_33 rfl (lv_at hl 3 rfl) ?_
            cases hf
            exact hj_15 _ (lv_sub hl [0, 1, 2, 3] rfl)
          · have hf := (if_neg c_16).symm.trans hf
            refine lv_aload_n hx hb dX9_late_24 rfl (lv_at hl 0 rfl) ?_
            refine va_get (D := (g.1, g.2.1)) (ci := 9) (v := .ref (ad 33)) (C := RX9) (T := TX9) (N := 39) hx hb hts in_X9 hown hK hP 0 rfl rfl 33 (by decide) (hts _ q889) (fun _ h9 => h9) rfl dX9_late_25 ?_
            refine lv_iload_n hx hb dX9_late_28 rfl (lv_at hl 1 rfl) ?_
            obtain ⟨hg, hf⟩ := sm_gd_e hf
            refine va_iald hx hb hK hP 16 0 rfl rfl (sm_in hg) dX9_late_29 ?_
            refine lv_goto (tgt := 34) hx hb dX9_late_30 (by decide) ?_
            cases hf
            exact hj_15 _ (lv_sub hl [0, 1, 2, 3] rfl)
        intro ls hl
        have hf := hf0
        refine lv_istore_n (lv' := [(1, .int x_14), (0, .ref (ad 0)), (3, .int x_1), (2, .int x_2)]) hx hb dX9_late_34 rfl hl (by decide) rfl (fun ls hl => ?_)
        refine lv_iload_n hx hb dX9_late_35 rfl (lv_at hl 3 rfl) ?_
        refine lv_aload_n hx hb dX9_late_36 rfl (lv_at hl 1 rfl) ?_
        refine va_get (D := (g.1, g.2.1)) (ci := 9) (v := .ref (ad 33)) (C := RX9) (T := TX9) (N := 39) hx hb hts in_X9 hown hK hP 0 rfl rfl 33 (by decide) (hts _ q889) (fun _ h9 => h9) rfl dX9_late_37 ?_
        refine lv_iload_n hx hb dX9_late_40 rfl (lv_at hl 2 rfl) ?_
        obtain ⟨hg, hf⟩ := sm_gd_e hf
        refine va_iald hx hb hK hP 16 0 rfl rfl (sm_in hg) dX9_late_41 ?_
        refine lv_iadd hx hb dX9_late_42 ?_
        refine lv_topi (fun x_17 ex_17 => ?_)
        have hf := sm_lt_v hf ex_17
        refine lv_istore_n (lv' := [(2, .int x_17), (1, .int x_14), (0, .ref (ad 0)), (3, .int x_1)]) hx hb dX9_late_43 rfl hl (by decide) rfl (fun ls hl => ?_)
        refine lv_iinc (v := x_1 + 1) (lv' := [(3, .int (x_1 + 1)), (2, .int x_17), (1, .int x_14), (0, .ref (ad 0))]) hx hb dX9_late_44 hl (k := 3) rfl rfl (by decide) rfl (fun ls hl => ?_)
        refine lv_goto (tgt := 6) hx hb dX9_late_47 (by decide) ?_
        cases hf
        exact ih_4 _ _ _ _ _ _ _ hc_8 (lv_sub hl [3, 0, 1, 2] rfl) kx_5
  obtain ⟨x_19, x_20, x_21, ho, hf⟩ := sm_b3_e hf
  refine L_9 FU 0 0 0 x_19 x_20 x_21 ls ho (lv_sub hl [3, 0, 1, 2] rfl) ?_
  intro ls hl
  refine lv_sipush (v := 10000) hx hb dX9_late_50 (by decide) ?_
  refine lv_iload_n hx hb dX9_late_53 rfl (lv_at hl 3 rfl) ?_
  refine lv_imul hx hb dX9_late_54 ?_
  refine lv_iload_n hx hb dX9_late_55 rfl (lv_at hl 2 rfl) ?_
  refine lv_iadd hx hb dX9_late_56 ?_
  have hf := Option.some.inj hf
  rw [← hQ]
  exact W.iret (v := (10000 * x_21) + x_20) hx hb hr (fun t ht hW => ⟨_, rfl, hf, ht⟩) (fun _ h => by cases h) dX9_late_57
abbrev rX9_lays : Room := { frames := 0, cells := 0, slots := 0, locals := 0 }
set_option maxHeartbeats 4000000 in
theorem wX9_lays (l : Launch) (g : GG) (ad : Nat → Nat) (S : MS) (a1 : Int32) (Sf : MS) (hf : fX9_lays S a1 = some Sf) : Met l yX9_lays (ws_ yX9_lays cX9_lays 4 none) rX9_lays (va_Pc [.ref (ad 0), .int a1] (fun U => PP g (WM g ad S) U.heap ∧ EV g U ∧ va_D (AM ad) (WM g ad S))) (va_Qv (fun (_ : Unit) => True) (fun _ t => PP g (WM g ad Sf) t.heap ∧ va_D (AM ad) (WM g ad Sf)) (AM ad)) 0 0 (AM ad) := by
  refine sm_st (by decide) ?_
  intro p e s m args below meth c hx hb hr hlocks hml hown hnm hts hv
  obtain ⟨hargs, hP, hE, hD⟩ := hv
  obtain ⟨hK, hN⟩ := id hE
  have hS : va_S (AM ad) s.heap s.heap [] := va_S.rf
  have hown : s.vm.findClass RX9 = some m.cls := hown
  refine sm_en _ (Nat.le_of_ble_eq_true rfl) hargs (fun ls hl => ?_)
  have hl : lv_has ls 4 [(0, .ref (ad 0)), (1, .int a1)] := hl
  generalize hQ : MQ below _ args s _ _ _ = Q
  unfold fX9_lays at hf
  refine lv_iload_n hx hb dX9_lays_0 rfl (lv_at hl 1 rfl) ?_
  refine lv_istore_n (lv' := [(2, .int a1), (0, .ref (ad 0)), (1, .int a1)]) hx hb dX9_lays_1 rfl hl (by decide) rfl (fun ls hl => ?_)
  refine lv_aload_n hx hb dX9_lays_2 rfl (lv_at hl 1 rfl) ?_
  refine va_get (D := (g.1, g.2.1)) (ci := 9) (v := .int (S.1 3)) (C := RX9) (T := TX9) (N := 39) hx hb hts in_X9 hown hK hP 0 rfl rfl 3 (by decide) (hts _ q859) (fun _ h9 => h9) rfl dX9_lays_3 ?_
  refine lv_iconst (v := 1) hx hb dX9_lays_6 (by decide) ?_
  refine lv_isub hx hb dX9_lays_7 ?_
  refine lv_istore_n (lv' := [(3, .int ((S.1 3) - 1)), (2, .int a1), (0, .ref (ad 0)), (1, .int a1)]) hx hb dX9_lays_8 rfl hl (by decide) rfl (fun ls hl => ?_)
  have L_9 : ∀ (n : Nat) (x_1 : Int32) (x_2 : Int32) (S_3 : MS) (o_10 : Int32) (o_11 : Int32) (o_12 : MS) (H : Heap) (locs : List Loc) (ls : Array Slot), sm_lp (fun q => fX9_lays_9 q.1 q.2.1 q.2.2) n (x_1, x_2, S_3) = some (o_10, o_11, o_12) → PP g (WM g ad S_3) H → va_D (AM ad) (WM g ad S_3) → va_S (AM ad) s.heap H locs → lv_has ls 4 [(0, .ref (ad 0)), (1, .int a1), (3, .int x_1), (2, .int x_2)] → (∀ (H : Heap) (locs : List Loc) (ls : Array Slot), PP g (WM g ad o_12) H → va_D (AM ad) (WM g ad o_12) → va_S (AM ad) s.heap H locs → lv_has ls 4 [(0, .ref (ad 0)), (1, .int a1), (3, .int o_10), (2, .int o_11)] → W p l e rX9_lays s m args below meth c H locs 0 0 Q (F0 m 38 ls [])) → W p l e rX9_lays s m args below meth c H locs 0 0 Q (F0 m 9 ls []) := by
    intro n
    induction n with
    | zero =>
      intro _ _ _ _ _ _ _ _ _ hf
      cases hf
    | succ n ih_4 =>
      intro x_1 x_2 S_3 o_10 o_11 o_12 H locs ls hf hP hD hS hl kx_5
      obtain ⟨q, hf, hc_8⟩ := sm_bnd hf
      have hf : fX9_lays_9 x_1 x_2 S_3 = some q := hf
      unfold fX9_lays_9 at hf
      refine lv_iload_n hx hb dX9_lays_9 rfl (lv_at hl 2 rfl) ?_
      refine lv_if_lt (tgt := 38) hx hb dX9_lays_10 (by decide) (fun c_13 => ?_) (fun c_13 => ?_)
      · have hf := (if_pos c_13).symm.trans hf
        cases hf
        have hc_8 : some (x_1, x_2, S_3) = some (o_10, o_11, o_12) := hc_8
        cases hc_8
        exact kx_5 _ _ _ hP hD hS (lv_sub hl [0, 1, 2, 3] rfl)
      · have hf := (if_neg c_13).symm.trans hf
        refine lv_aload_n hx hb dX9_lays_13 rfl (lv_at hl 0 rfl) ?_
        refine va_get (D := (g.1, g.2.1)) (ci := 9) (v := .ref (ad 30)) (C := RX9) (T := TX9) (N := 39) hx hb hts in_X9 hown hK hP 0 rfl rfl 30 (by decide) (hts _ q886) (fun _ h9 => h9) rfl dX9_lays_14 ?_
        refine lv_iload_n hx hb dX9_lays_17 rfl (lv_at hl 2 rfl) ?_
        refine lv_iload_n hx hb dX9_lays_18 rfl (lv_at hl 3 rfl) ?_
        refine lv_aload_n hx hb dX9_lays_19 rfl (lv_at hl 0 rfl) ?_
        refine va_get (D := (g.1, g.2.1)) (ci := 9) (v := .int (S_3.1 1)) (C := RX9) (T := TX9) (N := 39) hx hb hts in_X9 hown hK hP 0 rfl rfl 1 (by decide) (hts _ q857) (fun _ h9 => h9) rfl dX9_lays_20 ?_
        obtain ⟨hg, hf⟩ := sm_gd_e hf
        refine lv_irem hx hb dX9_lays_23 (sm_ne hg) ?_
        obtain ⟨hg, hf⟩ := sm_gd_e hf
        refine va_iast (i := x_1) (x := x_2 - x_2 / (S_3.1 1) * (S_3.1 1)) hx hb hK hP hD hS 13 0 rfl rfl (sm_in hg) dX9_lays_24 (fun H locs hP hD hS => ?_)
        obtain ⟨S_14, eS_14, hf⟩ := sm_lt_e hf
        have hP : PP g (WM g ad S_14) H := by rw [eS_14]; exact pmr30 hP
        have hD : va_D (AM ad) (WM g ad S_14) := by rw [eS_14]; exact dmr30 hD
        refine lv_iload_n hx hb dX9_lays_25 rfl (lv_at hl 3 rfl) ?_
        refine lv_aload_n hx hb dX9_lays_26 rfl (lv_at hl 0 rfl) ?_
        refine va_get (D := (g.1, g.2.1)) (ci := 9) (v := .int (S_14.1 1)) (C := RX9) (T := TX9) (N := 39) hx hb hts in_X9 hown hK hP 0 rfl rfl 1 (by decide) (hts _ q857) (fun _ h9 => h9) rfl dX9_lays_27 ?_
        obtain ⟨hg, hf⟩ := sm_gd_e hf
        refine lv_idiv hx hb dX9_lays_30 (sm_ne hg) ?_
        refine lv_istore_n (lv' := [(2, .int (x_2 / (S_14.1 1))), (0, .ref (ad 0)), (1, .int a1), (3, .int x_1)]) hx hb dX9_lays_31 rfl hl (by decide) rfl (fun ls hl => ?_)
        refine lv_iinc (v := x_1 + (-1)) (lv' := [(3, .int (x_1 + (-1))), (2, .int (x_2 / (S_14.1 1))), (0, .ref (ad 0)), (1, .int a1)]) hx hb dX9_lays_32 hl (k := 3) rfl rfl (by decide) rfl (fun ls hl => ?_)
        refine lv_goto (tgt := 9) hx hb dX9_lays_35 (by decide) ?_
        cases hf
        exact ih_4 _ _ _ _ _ _ _ _ _ hc_8 hP hD hS (lv_sub hl [2, 3, 0, 1] rfl) kx_5
  obtain ⟨x_16, x_17, S_18, ho, hf⟩ := sm_b3_e hf
  refine L_9 FU ((S.1 3) - 1) a1 S x_16 x_17 S_18 s.heap [] ls ho hP hD hS (lv_sub hl [2, 3, 0, 1] rfl) ?_
  intro H locs ls hP hD hS hl
  have hf := Option.some.inj hf
  rw [← hQ]
  exact W.vret hx hb hr (fun t ht hW => ⟨⟨(), rfl, trivial, by rw [ht, ← hf]; exact hP, by rw [← hf]; exact hD⟩, hS.F ht⟩) hS.2.2 dX9_lays_38
abbrev rX9_letterAt : Room := { frames := 0, cells := 0, slots := 0, locals := 0 }
set_option maxHeartbeats 4000000 in
theorem wX9_letterAt (l : Launch) (g : GG) (ad : Nat → Nat) (S : MS) (a1 : Int32) (rf : Int32) (hf : fX9_letterAt S a1 = some rf) : Met l yX9_letterAt (ws_ yX9_letterAt cX9_letterAt 2 (some .int)) rX9_letterAt (va_Pc [.ref (ad 0), .int a1] (fun U => PP g (WM g ad S) U.heap ∧ EV g U)) (vp_Si (fun y => y = rf)) 0 0 (fun _ => False) := by
  refine sm_st (by decide) ?_
  intro p e s m args below meth c hx hb hr hlocks hml hown hnm hts hv
  obtain ⟨hargs, hP, hE⟩ := hv
  obtain ⟨hK, hN⟩ := id hE
  have hown : s.vm.findClass RX9 = some m.cls := hown
  refine sm_en _ (Nat.le_of_ble_eq_true rfl) hargs (fun ls hl => ?_)
  have hl : lv_has ls 2 [(0, .ref (ad 0)), (1, .int a1)] := hl
  generalize hQ : MQ below _ args s _ _ _ = Q
  unfold fX9_letterAt at hf
  refine lv_iload_n hx hb dX9_letterAt_0 rfl (lv_at hl 1 rfl) ?_
  refine lv_aload_n hx hb dX9_letterAt_1 rfl (lv_at hl 0 rfl) ?_
  refine va_get (D := (g.1, g.2.1)) (ci := 9) (v := .int (S.1 18)) (C := RX9) (T := TX9) (N := 39) hx hb hts in_X9 hown hK hP 0 rfl rfl 18 (by decide) (hts _ q874) (fun _ h9 => h9) rfl dX9_letterAt_2 ?_
  refine lv_icmp_ge (tgt := 17) hx hb dX9_letterAt_5 (by decide) (fun c_1 => ?_) (fun c_1 => ?_)
  · have hf := (if_pos c_1).symm.trans hf
    refine lv_iconst (v := (-1)) hx hb dX9_letterAt_17 (by decide) ?_
    have hf := Option.some.inj hf
    rw [← hQ]
    exact W.iret (v := (-1)) hx hb hr (fun t ht hW => ⟨_, rfl, hf, ht⟩) (fun _ h => by cases h) dX9_letterAt_18
  · have hf := (if_neg c_1).symm.trans hf
    refine lv_aload_n hx hb dX9_letterAt_8 rfl (lv_at hl 0 rfl) ?_
    refine va_get (D := (g.1, g.2.1)) (ci := 9) (v := .ref (ad 17)) (C := RX9) (T := TX9) (N := 39) hx hb hts in_X9 hown hK hP 0 rfl rfl 17 (by decide) (hts _ q873) (fun _ h9 => h9) rfl dX9_letterAt_9 ?_
    refine lv_iload_n hx hb dX9_letterAt_12 rfl (lv_at hl 1 rfl) ?_
    obtain ⟨hg, hf⟩ := sm_gd_e hf
    refine va_iald hx hb hK hP 9 0 rfl rfl (sm_in hg) dX9_letterAt_13 ?_
    refine lv_goto (tgt := 18) hx hb dX9_letterAt_14 (by decide) ?_
    have hf := Option.some.inj hf
    rw [← hQ]
    exact W.iret (v := S.2.1 17 a1.toNatClampNeg) hx hb hr (fun t ht hW => ⟨_, rfl, hf, ht⟩) (fun _ h => by cases h) dX9_letterAt_18
abbrev rX9_madeOf : Room := { frames := 1, cells := 0, slots := 0, locals := 21 }
set_option maxHeartbeats 4000000 in
theorem wX9_madeOf (l : Launch) (g : GG) (ad : Nat → Nat) (S : MS) (a1 : Int32) (a2 : Int32) (rf : Int32) (hf : fX9_madeOf S a1 a2 = some rf) : Met l yX9_madeOf (ws_ yX9_madeOf cX9_madeOf 3 (some .int)) rX9_madeOf (va_Pc [.ref (ad 0), .int a1, .int a2] (fun U => PP g (WM g ad S) U.heap ∧ EV g U)) (vp_Si (fun y => y = rf)) 0 0 (fun _ => False) := by
  refine sm_st (by decide) ?_
  intro p e s m args below meth c hx hb hr hlocks hml hown hnm hts hv
  obtain ⟨hargs, hP, hE⟩ := hv
  obtain ⟨hK, hN⟩ := id hE
  have hown : s.vm.findClass RX9 = some m.cls := hown
  refine sm_en _ (Nat.le_of_ble_eq_true rfl) hargs (fun ls hl => ?_)
  have hl : lv_has ls 3 [(0, .ref (ad 0)), (1, .int a1), (2, .int a2)] := hl
  generalize hQ : MQ below _ args s _ _ _ = Q
  unfold fX9_madeOf at hf
  refine lv_iload_n hx hb dX9_madeOf_0 rfl (lv_at hl 2 rfl) ?_
  refine lv_bipush (v := 10) hx hb dX9_madeOf_1 (by decide) ?_
  refine lv_icmp_eq (tgt := 21) hx hb dX9_madeOf_3 (by decide) (fun c_1 => ?_) (fun c_1 => ?_)
  · have hf := (if_pos c_1).symm.trans hf
    refine lv_bipush (v := 10) hx hb dX9_madeOf_21 (by decide) ?_
    have hf := Option.some.inj hf
    rw [← hQ]
    exact W.iret (v := 10) hx hb hr (fun t ht hW => ⟨_, rfl, hf, ht⟩) (fun _ h => by cases h) dX9_madeOf_23
  · have hf := (if_neg c_1).symm.trans hf
    refine lv_aload_n hx hb dX9_madeOf_6 rfl (lv_at hl 0 rfl) ?_
    refine va_get (D := (g.1, g.2.1)) (ci := 9) (v := .ref (ad 6)) (C := RX9) (T := TX9) (N := 39) hx hb hts in_X9 hown hK hP 0 rfl rfl 6 (by decide) (hts _ q862) (fun _ h9 => h9) rfl dX9_madeOf_7 ?_
    refine lv_iconst (v := 3) hx hb dX9_madeOf_10 (by decide) ?_
    refine lv_iload_n hx hb dX9_madeOf_11 rfl (lv_at hl 1 rfl) ?_
    refine lv_imul hx hb dX9_madeOf_12 ?_
    obtain ⟨hg, hf⟩ := sm_gd_e hf
    refine va_iald hx hb hK hP 2 0 rfl rfl (sm_in hg) dX9_madeOf_13 ?_
    refine lv_iload_n hx hb dX9_madeOf_14 rfl (lv_at hl 2 rfl) ?_
    refine vp_callSi (W.runS (As := [.int (S.2.1 6 (3 * a1).toNatClampNeg), .int a2]) (rest := []) ⟨hx, hb, hml, hown, hts⟩ (wX9_has l (S.2.1 6 (3 * a1).toNatClampNeg) a2 (fX9_has (S.2.1 6 (3 * a1).toNatClampNeg) a2) rfl) (va_cwS 2 hts (lw_S q1006 q1007 q70 q1008) rfl rfl rfl (by decide +kernel) ⟨Nat.le_of_ble_eq_true rfl, Nat.le_of_ble_eq_true rfl⟩) (sm_ps) rfl rfl hl.1 rfl (lv_room (Nat.le_of_ble_eq_true rfl)) dX9_madeOf_15 ⟨Nat.le_of_ble_eq_true rfl, Nat.le_of_ble_eq_true rfl⟩) (fun r_3 er_2 => ?_)
    have er_2 := er_2.symm
    subst er_2
    refine lv_if_eq (tgt := 24) hx hb dX9_madeOf_18 (by decide) (fun c_4 => ?_) (fun c_4 => ?_)
    · have hf := (if_pos c_4).symm.trans hf
      refine lv_iload_n hx hb dX9_madeOf_24 rfl (lv_at hl 2 rfl) ?_
      refine lv_aload_n hx hb dX9_madeOf_25 rfl (lv_at hl 0 rfl) ?_
      refine va_get (D := (g.1, g.2.1)) (ci := 9) (v := .ref (ad 6)) (C := RX9) (T := TX9) (N := 39) hx hb hts in_X9 hown hK hP 0 rfl rfl 6 (by decide) (hts _ q862) (fun _ h9 => h9) rfl dX9_madeOf_26 ?_
      refine lv_iconst (v := 3) hx hb dX9_madeOf_29 (by decide) ?_
      refine lv_iload_n hx hb dX9_madeOf_30 rfl (lv_at hl 1 rfl) ?_
      refine lv_imul hx hb dX9_madeOf_31 ?_
      refine lv_iconst (v := 1) hx hb dX9_madeOf_32 (by decide) ?_
      refine lv_iadd hx hb dX9_madeOf_33 ?_
      obtain ⟨hg, hf⟩ := sm_gd_e hf
      refine va_iald hx hb hK hP 2 0 rfl rfl (sm_in hg) dX9_madeOf_34 ?_
      refine lv_icmp_ne (tgt := 51) hx hb dX9_madeOf_35 (by decide) (fun c_5 => ?_) (fun c_5 => ?_)
      · have hf := (if_neg c_5).symm.trans hf
        refine lv_iload_n hx hb dX9_madeOf_51 rfl (lv_at hl 2 rfl) ?_
        have hf := Option.some.inj hf
        rw [← hQ]
        exact W.iret (v := a2) hx hb hr (fun t ht hW => ⟨_, rfl, hf, ht⟩) (fun _ h => by cases h) dX9_madeOf_52
      · have hf := (if_pos c_5).symm.trans hf
        refine lv_aload_n hx hb dX9_madeOf_38 rfl (lv_at hl 0 rfl) ?_
        refine va_get (D := (g.1, g.2.1)) (ci := 9) (v := .ref (ad 6)) (C := RX9) (T := TX9) (N := 39) hx hb hts in_X9 hown hK hP 0 rfl rfl 6 (by decide) (hts _ q862) (fun _ h9 => h9) rfl dX9_madeOf_39 ?_
        refine lv_iconst (v := 3) hx hb dX9_madeOf_42 (by decide) ?_
        refine lv_iload_n hx hb dX9_madeOf_43 rfl (lv_at hl 1 rfl) ?_
        refine lv_imul hx hb dX9_madeOf_44 ?_
        refine lv_iconst (v := 2) hx hb dX9_madeOf_45 (by decide) ?_
        refine lv_iadd hx hb dX9_madeOf_46 ?_
        obtain ⟨hg, hf⟩ := sm_gd_e hf
        refine va_iald hx hb hK hP 2 0 rfl rfl (sm_in hg) dX9_madeOf_47 ?_
        refine lv_goto (tgt := 52) hx hb dX9_madeOf_48 (by decide) ?_
        have hf := Option.some.inj hf
        rw [← hQ]
        exact W.iret (v := S.2.1 6 ((3 * a1) + 2).toNatClampNeg) hx hb hr (fun t ht hW => ⟨_, rfl, hf, ht⟩) (fun _ h => by cases h) dX9_madeOf_52
    · have hf := (if_neg c_4).symm.trans hf
      refine lv_bipush (v := 10) hx hb dX9_madeOf_21 (by decide) ?_
      have hf := Option.some.inj hf
      rw [← hQ]
      exact W.iret (v := 10) hx hb hr (fun t ht hW => ⟨_, rfl, hf, ht⟩) (fun _ h => by cases h) dX9_madeOf_23
abbrev rX9_mayLeave : Room := { frames := 0, cells := 0, slots := 0, locals := 0 }
set_option maxHeartbeats 4000000 in
theorem wX9_mayLeave (l : Launch) (g : GG) (ad : Nat → Nat) (S : MS) (a1 : Int32) (rf : Int32) (hf : fX9_mayLeave S a1 = some rf) : Met l yX9_mayLeave (ws_ yX9_mayLeave cX9_mayLeave 2 (some .boolean)) rX9_mayLeave (va_Pc [.ref (ad 0), .int a1] (fun U => PP g (WM g ad S) U.heap ∧ EV g U)) (vp_Si (fun y => y = rf)) 0 0 (fun _ => False) := by
  refine sm_st (by decide) ?_
  intro p e s m args below meth c hx hb hr hlocks hml hown hnm hts hv
  obtain ⟨hargs, hP, hE⟩ := hv
  obtain ⟨hK, hN⟩ := id hE
  have hown : s.vm.findClass RX9 = some m.cls := hown
  refine sm_en _ (Nat.le_of_ble_eq_true rfl) hargs (fun ls hl => ?_)
  have hl : lv_has ls 2 [(0, .ref (ad 0)), (1, .int a1)] := hl
  generalize hQ : MQ below _ args s _ _ _ = Q
  unfold fX9_mayLeave at hf
  refine lv_aload_n hx hb dX9_mayLeave_0 rfl (lv_at hl 0 rfl) ?_
  refine va_get (D := (g.1, g.2.1)) (ci := 9) (v := .ref (ad 7)) (C := RX9) (T := TX9) (N := 39) hx hb hts in_X9 hown hK hP 0 rfl rfl 7 (by decide) (hts _ q863) (fun _ h9 => h9) rfl dX9_mayLeave_1 ?_
  refine lv_iconst (v := 2) hx hb dX9_mayLeave_4 (by decide) ?_
  refine lv_iload_n hx hb dX9_mayLeave_5 rfl (lv_at hl 1 rfl) ?_
  refine lv_iadd hx hb dX9_mayLeave_6 ?_
  obtain ⟨hg, hf⟩ := sm_gd_e hf
  refine va_iald hx hb hK hP 3 0 rfl rfl (sm_in hg) dX9_mayLeave_7 ?_
  refine lv_bipush (v := (-9)) hx hb dX9_mayLeave_8 (by decide) ?_
  refine lv_icmp_eq (tgt := 33) hx hb dX9_mayLeave_10 (by decide) (fun c_1 => ?_) (fun c_1 => ?_)
  · have hf := (if_pos c_1).symm.trans hf
    refine lv_iconst (v := 0) hx hb dX9_mayLeave_33 (by decide) ?_
    have hf := Option.some.inj hf
    rw [← hQ]
    exact W.zret (v := 0) hx hb hr rfl (fun t ht hW => ⟨_, rfl, hf, ht⟩) (fun _ h => by cases h) dX9_mayLeave_34
  · have hf := (if_neg c_1).symm.trans hf
    refine lv_aload_n hx hb dX9_mayLeave_13 rfl (lv_at hl 0 rfl) ?_
    refine va_get (D := (g.1, g.2.1)) (ci := 9) (v := .ref (ad 7)) (C := RX9) (T := TX9) (N := 39) hx hb hts in_X9 hown hK hP 0 rfl rfl 7 (by decide) (hts _ q863) (fun _ h9 => h9) rfl dX9_mayLeave_14 ?_
    refine lv_bipush (v := 8) hx hb dX9_mayLeave_17 (by decide) ?_
    refine lv_iload_n hx hb dX9_mayLeave_19 rfl (lv_at hl 1 rfl) ?_
    refine lv_iadd hx hb dX9_mayLeave_20 ?_
    obtain ⟨hg, hf⟩ := sm_gd_e hf
    refine va_iald hx hb hK hP 3 0 rfl rfl (sm_in hg) dX9_mayLeave_21 ?_
    refine lv_aload_n hx hb dX9_mayLeave_22 rfl (lv_at hl 0 rfl) ?_
    refine va_get (D := (g.1, g.2.1)) (ci := 9) (v := .int (S.1 0)) (C := RX9) (T := TX9) (N := 39) hx hb hts in_X9 hown hK hP 0 rfl rfl 0 (by decide) (hts _ q856) (fun _ h9 => h9) rfl dX9_mayLeave_23 ?_
    refine lv_icmp_lt (tgt := 33) hx hb dX9_mayLeave_26 (by decide) (fun c_2 => ?_) (fun c_2 => ?_)
    · have hf := (if_pos c_2).symm.trans hf
      refine lv_iconst (v := 0) hx hb dX9_mayLeave_33 (by decide) ?_
      have hf := Option.some.inj hf
      rw [← hQ]
      exact W.zret (v := 0) hx hb hr rfl (fun t ht hW => ⟨_, rfl, hf, ht⟩) (fun _ h => by cases h) dX9_mayLeave_34
    · have hf := (if_neg c_2).symm.trans hf
      refine lv_iconst (v := 1) hx hb dX9_mayLeave_29 (by decide) ?_
      refine lv_goto (tgt := 34) hx hb dX9_mayLeave_30 (by decide) ?_
      have hf := Option.some.inj hf
      rw [← hQ]
      exact W.zret (v := 1) hx hb hr rfl (fun t ht hW => ⟨_, rfl, hf, ht⟩) (fun _ h => by cases h) dX9_mayLeave_34
abbrev rX9_leavers : Room := { frames := 1, cells := 0, slots := 0, locals := 21 }
set_option maxHeartbeats 4000000 in
theorem wX9_leavers (l : Launch) (g : GG) (ad : Nat → Nat) (S : MS) (rf : Int32) (hf : fX9_leavers S = some rf) : Met l yX9_leavers (ws_ yX9_leavers cX9_leavers 3 (some .int)) rX9_leavers (va_Pc [.ref (ad 0)] (fun U => PP g (WM g ad S) U.heap ∧ EV g U)) (vp_Si (fun y => y = rf)) 0 0 (fun _ => False) := by
  refine sm_st (by decide) ?_
  intro p e s m args below meth c hx hb hr hlocks hml hown hnm hts hv
  obtain ⟨hargs, hP, hE⟩ := hv
  obtain ⟨hK, hN⟩ := id hE
  have hown : s.vm.findClass RX9 = some m.cls := hown
  refine sm_en _ (Nat.le_of_ble_eq_true rfl) hargs (fun ls hl => ?_)
  have hl : lv_has ls 3 [(0, .ref (ad 0))] := hl
  generalize hQ : MQ below _ args s _ _ _ = Q
  unfold fX9_leavers at hf
  refine lv_iconst (v := 0) hx hb dX9_leavers_0 (by decide) ?_
  refine lv_istore_n (lv' := [(1, .int 0), (0, .ref (ad 0))]) hx hb dX9_leavers_1 rfl hl (by decide) rfl (fun ls hl => ?_)
  refine lv_iconst (v := 0) hx hb dX9_leavers_2 (by decide) ?_
  refine lv_istore_n (lv' := [(2, .int 0), (1, .int 0), (0, .ref (ad 0))]) hx hb dX9_leavers_3 rfl hl (by decide) rfl (fun ls hl => ?_)
  have L_8 : ∀ (n : Nat) (x_1 : Int32) (x_2 : Int32) (o_9 : Int32) (o_10 : Int32) (ls : Array Slot), sm_lp (fun q => fX9_leavers_4 S q.1 q.2) n (x_1, x_2) = some (o_9, o_10) → lv_has ls 3 [(0, .ref (ad 0)), (2, .int x_1), (1, .int x_2)] → (∀ (ls : Array Slot), lv_has ls 3 [(0, .ref (ad 0)), (2, .int o_9), (1, .int o_10)] → W p l e rX9_leavers s m args below meth c s.heap [] 0 0 Q (F0 m 36 ls [])) → W p l e rX9_leavers s m args below meth c s.heap [] 0 0 Q (F0 m 4 ls []) := by
    intro n
    induction n with
    | zero =>
      intro _ _ _ _ _ hf
      cases hf
    | succ n ih_3 =>
      intro x_1 x_2 o_9 o_10 ls hf hl kx_4
      obtain ⟨q, hf, hc_7⟩ := sm_bnd hf
      have hf : fX9_leavers_4 S x_1 x_2 = some q := hf
      unfold fX9_leavers_4 at hf
      refine lv_iload_n hx hb dX9_leavers_4 rfl (lv_at hl 1 rfl) ?_
      refine lv_aload_n hx hb dX9_leavers_5 rfl (lv_at hl 0 rfl) ?_
      refine va_get (D := (g.1, g.2.1)) (ci := 9) (v := .int (S.1 3)) (C := RX9) (T := TX9) (N := 39) hx hb hts in_X9 hown hK hP 0 rfl rfl 3 (by decide) (hts _ q859) (fun _ h9 => h9) rfl dX9_leavers_6 ?_
      refine lv_icmp_ge (tgt := 36) hx hb dX9_leavers_9 (by decide) (fun c_11 => ?_) (fun c_11 => ?_)
      · have hf := (if_pos c_11).symm.trans hf
        cases hf
        have hc_7 : some (x_1, x_2) = some (o_9, o_10) := hc_7
        cases hc_7
        exact kx_4 _ (lv_sub hl [0, 1, 2] rfl)
      · have hf := (if_neg c_11).symm.trans hf
        refine lv_iload_n hx hb dX9_leavers_12 rfl (lv_at hl 2 rfl) ?_
        refine lv_aload_n hx hb dX9_leavers_13 rfl (lv_at hl 0 rfl) ?_
        refine lv_iload_n hx hb dX9_leavers_14 rfl (lv_at hl 1 rfl) ?_
        obtain ⟨r_12, h_13, hf⟩ := sm_b1_e hf
        refine vp_callSi (W.runV (As := [.int x_1]) (rest := [.int x_2]) ⟨hx, hb, hml, hown, hts⟩ (wX9_mayLeave l g ad S x_1 r_12 h_13) (cwV 1 hts (lw_V q1049 q1051 qs33 q70 q1052) rfl rfl rfl (by decide +kernel) ⟨Nat.le_of_ble_eq_true rfl, Nat.le_of_ble_eq_true rfl⟩) (sm_pv hE hP (va_recv hK hP (ci := 9) (q0 := 0) rfl rfl)) rfl rfl hl.1 rfl (lv_room (Nat.le_of_ble_eq_true rfl)) dX9_leavers_15 ⟨Nat.le_of_ble_eq_true rfl, Nat.le_of_ble_eq_true rfl⟩) (fun r_15 er_14 => ?_)
        have er_14 := er_14.symm
        subst er_14
        refine lv_if_eq (tgt := 27) hx hb dX9_leavers_18 (by decide) (fun c_16 => ?_) (fun c_16 => ?_)
        · have hf := (if_pos c_16).symm.trans hf
          refine lv_iconst (v := 0) hx hb dX9_leavers_27 (by decide) ?_
          refine lv_ior hx hb dX9_leavers_28 ?_
          refine lv_istore_n (lv' := [(1, .int (x_2 ||| 0)), (0, .ref (ad 0)), (2, .int x_1)]) hx hb dX9_leavers_29 rfl hl (by decide) rfl (fun ls hl => ?_)
          refine lv_iinc (v := x_1 + 1) (lv' := [(2, .int (x_1 + 1)), (1, .int (x_2 ||| 0)), (0, .ref (ad 0))]) hx hb dX9_leavers_30 hl (k := 2) rfl rfl (by decide) rfl (fun ls hl => ?_)
          refine lv_goto (tgt := 4) hx hb dX9_leavers_33 (by decide) ?_
          cases hf
          exact ih_3 _ _ _ _ _ hc_7 (lv_sub hl [2, 0, 1] rfl) kx_4
        · have hf := (if_neg c_16).symm.trans hf
          refine lv_iconst (v := 1) hx hb dX9_leavers_21 (by decide) ?_
          refine lv_iload_n hx hb dX9_leavers_22 rfl (lv_at hl 1 rfl) ?_
          refine lv_ishl hx hb dX9_leavers_23 ?_
          refine lv_goto (tgt := 28) hx hb dX9_leavers_24 (by decide) ?_
          refine lv_ior hx hb dX9_leavers_28 ?_
          refine lv_topi (fun x_17 ex_17 => ?_)
          have hf := sm_lt_v hf ex_17
          refine lv_istore_n (lv' := [(1, .int x_17), (0, .ref (ad 0)), (2, .int x_1)]) hx hb dX9_leavers_29 rfl hl (by decide) rfl (fun ls hl => ?_)
          refine lv_iinc (v := x_1 + 1) (lv' := [(2, .int (x_1 + 1)), (1, .int x_17), (0, .ref (ad 0))]) hx hb dX9_leavers_30 hl (k := 2) rfl rfl (by decide) rfl (fun ls hl => ?_)
          refine lv_goto (tgt := 4) hx hb dX9_leavers_33 (by decide) ?_
          cases hf
          exact ih_3 _ _ _ _ _ hc_7 (lv_sub hl [2, 0, 1] rfl) kx_4
  obtain ⟨x_19, x_20, ho, hf⟩ := sm_b2_e hf
  refine L_8 FU 0 0 x_19 x_20 ls ho (lv_sub hl [2, 0, 1] rfl) ?_
  intro ls hl
  refine lv_iload_n hx hb dX9_leavers_36 rfl (lv_at hl 2 rfl) ?_
  have hf := Option.some.inj hf
  rw [← hQ]
  exact W.iret (v := x_20) hx hb hr (fun t ht hW => ⟨_, rfl, hf, ht⟩) (fun _ h => by cases h) dX9_leavers_37
abbrev rX9_nephewRate : Room := { frames := 2, cells := 0, slots := 0, locals := 43 }
set_option maxHeartbeats 4000000 in
theorem wX9_nephewRate (l : Launch) (g : GG) (ad : Nat → Nat) (S : MS) (a1 : Int32) (Sf : MS) (rf : Int32) (hf : fX9_nephewRate S a1 = some (Sf, rf)) : Met l yX9_nephewRate (ws_ yX9_nephewRate cX9_nephewRate 2 (some .int)) rX9_nephewRate (va_Pc [.ref (ad 0), .int a1] (fun U => PP g (WM g ad S) U.heap ∧ EV g U ∧ va_D (AM ad) (WM g ad S))) (va_Qi (fun y (_ : Unit) => y = rf) (fun _ t => PP g (WM g ad Sf) t.heap ∧ va_D (AM ad) (WM g ad Sf)) (AM ad)) 0 0 (AM ad) := by
  refine sm_st (by decide) ?_
  intro p e s m args below meth c hx hb hr hlocks hml hown hnm hts hv
  obtain ⟨hargs, hP, hE, hD⟩ := hv
  obtain ⟨hK, hN⟩ := id hE
  have hS : va_S (AM ad) s.heap s.heap [] := va_S.rf
  have hown : s.vm.findClass RX9 = some m.cls := hown
  refine sm_en _ (Nat.le_of_ble_eq_true rfl) hargs (fun ls hl => ?_)
  have hl : lv_has ls 2 [(0, .ref (ad 0)), (1, .int a1)] := hl
  generalize hQ : MQ below _ args s _ _ _ = Q
  unfold fX9_nephewRate at hf
  refine lv_aload_n hx hb dX9_nephewRate_0 rfl (lv_at hl 0 rfl) ?_
  refine lv_dup hx hb dX9_nephewRate_1 rfl ?_
  refine va_get (D := (g.1, g.2.1)) (ci := 9) (v := .long S.2.2.1) (C := RX9) (T := TX9) (N := 39) hx hb hts in_X9 hown hK hP 0 rfl rfl 16 (by decide) (hts _ q872) (fun _ h9 => h9) rfl dX9_nephewRate_2 ?_
  refine lv_ldc2 (v := 100) hx hb hown (hts _ q1253) dX9_nephewRate_5 ?_
  refine lv_ladd hx hb dX9_nephewRate_8 ?_
  refine va_put (D := (g.1, g.2.1)) (ci := 9) (v := .long (S.2.2.1 + 100)) (ty := .long) (C := RX9) (T := TX9) (N := 39) hx hb hts in_X9 tyX9 tyX9_ok nmX9 hown hK hP hD hS 0 rfl rfl 16 (by decide) (hts _ q872) (fun _ h9 => h9) rfl (by decide +kernel) rfl rfl (Nat.le_of_ble_eq_true rfl) dX9_nephewRate_9 (fun H locs hP hD hS => ?_)
  obtain ⟨S_1, eS_1, hf⟩ := sm_lt_e hf
  have hP : PP g (WM g ad S_1) H := by rw [eS_1]; exact pmf16 hP
  have hD : va_D (AM ad) (WM g ad S_1) := by rw [eS_1]; exact dmf16 hD
  refine lv_aload_n hx hb dX9_nephewRate_12 rfl (lv_at hl 0 rfl) ?_
  refine lv_iload_n hx hb dX9_nephewRate_13 rfl (lv_at hl 1 rfl) ?_
  obtain ⟨S_2, r_4, h_3, hf⟩ := sm_b2_e hf
  refine va_calli (va_runV (As := [.int a1]) (rest := []) ⟨hx, hb, hml, hown, hts⟩ (wX9_clerkRate l g ad S_1 a1 S_2 r_4 h_3) (cwV 1 hts (lw_V q1241 q1243 qs56 q70 q1244) rfl rfl rfl (by decide +kernel) ⟨Nat.le_of_ble_eq_true rfl, Nat.le_of_ble_eq_true rfl⟩) (sm_pe hE hP hD (va_recv hK hP (ci := 9) (q0 := 0) rfl rfl)) rfl rfl hl.1 rfl (lv_room (Nat.le_of_ble_eq_true rfl)) dX9_nephewRate_14 ⟨Nat.le_of_ble_eq_true rfl, Nat.le_of_ble_eq_true rfl⟩) hS (fun _ _ h => h) (fun _ h => h) (fun r_6 u t H locs ht hvm er_5 hB hz hk hS => ?_)
  have er_5 := er_5.symm
  subst er_5
  obtain ⟨hP, hD⟩ := hB
  rw [ht] at hP
  refine lv_aload_n hx hb dX9_nephewRate_17 rfl (lv_at hl 0 rfl) ?_
  refine va_get (D := (g.1, g.2.1)) (ci := 9) (v := .ref (ad 6)) (C := RX9) (T := TX9) (N := 39) hx hb hts in_X9 hown hK hP 0 rfl rfl 6 (by decide) (hts _ q862) (fun _ h9 => h9) rfl dX9_nephewRate_18 ?_
  refine lv_iconst (v := 3) hx hb dX9_nephewRate_21 (by decide) ?_
  refine lv_iload_n hx hb dX9_nephewRate_22 rfl (lv_at hl 1 rfl) ?_
  refine lv_imul hx hb dX9_nephewRate_23 ?_
  refine lv_iconst (v := 2) hx hb dX9_nephewRate_24 (by decide) ?_
  refine lv_iadd hx hb dX9_nephewRate_25 ?_
  obtain ⟨hg, hf⟩ := sm_gd_e hf
  refine va_iald hx hb hK hP 2 0 rfl rfl (sm_in hg) dX9_nephewRate_26 ?_
  refine lv_isub hx hb dX9_nephewRate_27 ?_
  have hf := Option.some.inj hf
  rw [← hQ]
  have hf := Prod.mk.inj hf
  exact W.iret (v := r_4 - (S_2.2.1 6 ((3 * a1) + 2).toNatClampNeg)) hx hb hr (fun t ht hW => ⟨⟨_, (), rfl, hf.2, by rw [ht, ← hf.1]; exact hP, by rw [← hf.1]; exact hD⟩, hS.F ht⟩) hS.2.2 dX9_nephewRate_28
abbrev rX9_next : Room := { frames := 1, cells := 0, slots := 0, locals := 22 }
set_option maxHeartbeats 4000000 in
theorem wX9_next (l : Launch) (g : GG) (ad : Nat → Nat) (S : MS) (Sf : MS) (hf : fX9_next S = some Sf) : Met l yX9_next (ws_ yX9_next cX9_next 3 none) rX9_next (va_Pc [.ref (ad 0)] (fun U => PP g (WM g ad S) U.heap ∧ EV g U ∧ va_D (AM ad) (WM g ad S))) (va_Qv (fun (_ : Unit) => True) (fun _ t => PP g (WM g ad Sf) t.heap ∧ va_D (AM ad) (WM g ad Sf)) (AM ad)) 0 0 (AM ad) := by
  refine sm_st (by decide) ?_
  intro p e s m args below meth c hx hb hr hlocks hml hown hnm hts hv
  obtain ⟨hargs, hP, hE, hD⟩ := hv
  obtain ⟨hK, hN⟩ := id hE
  have hS : va_S (AM ad) s.heap s.heap [] := va_S.rf
  have hown : s.vm.findClass RX9 = some m.cls := hown
  refine sm_en _ (Nat.le_of_ble_eq_true rfl) hargs (fun ls hl => ?_)
  have hl : lv_has ls 3 [(0, .ref (ad 0))] := hl
  generalize hQ : MQ below _ args s _ _ _ = Q
  unfold fX9_next at hf
  have L_7 : ∀ (n : Nat) (S_1 : MS) (o_8 : MS) (H : Heap) (locs : List Loc) (ls : Array Slot), sm_lp (fun q => fX9_next_0 q) n S_1 = some o_8 → PP g (WM g ad S_1) H → va_D (AM ad) (WM g ad S_1) → va_S (AM ad) s.heap H locs → lv_has ls 3 [(0, .ref (ad 0))] → (∀ (H : Heap) (locs : List Loc) (ls : Array Slot), PP g (WM g ad o_8) H → va_D (AM ad) (WM g ad o_8) → va_S (AM ad) s.heap H locs → lv_has ls 3 [(0, .ref (ad 0))] → W p l e rX9_next s m args below meth c H locs 0 0 Q (F0 m 26 ls [])) → W p l e rX9_next s m args below meth c H locs 0 0 Q (F0 m 0 ls []) := by
    intro n
    induction n with
    | zero =>
      intro _ _ _ _ _ hf
      cases hf
    | succ n ih_2 =>
      intro S_1 o_8 H locs ls hf hP hD hS hl kx_3
      obtain ⟨q, hf, hc_6⟩ := sm_bnd hf
      have hf : fX9_next_0 S_1 = some q := hf
      unfold fX9_next_0 at hf
      refine lv_aload_n hx hb dX9_next_0 rfl (lv_at hl 0 rfl) ?_
      refine lv_aload_n hx hb dX9_next_1 rfl (lv_at hl 0 rfl) ?_
      refine va_get (D := (g.1, g.2.1)) (ci := 9) (v := .int (S_1.1 19)) (C := RX9) (T := TX9) (N := 39) hx hb hts in_X9 hown hK hP 0 rfl rfl 19 (by decide) (hts _ q875) (fun _ h9 => h9) rfl dX9_next_2 ?_
      obtain ⟨r_9, h_10, hf⟩ := sm_b1_e hf
      refine vp_callSi (W.runV (As := [.int (S_1.1 19)]) (rest := []) ⟨hx, hb, hml, hown, hts⟩ (wX9_letterAt l g ad S_1 (S_1.1 19) r_9 h_10) (cwV 1 hts (lw_V q994 q996 qs23 q70 q997) rfl rfl rfl (by decide +kernel) ⟨Nat.le_of_ble_eq_true rfl, Nat.le_of_ble_eq_true rfl⟩) (sm_pv hE hP (va_recv hK hP (ci := 9) (q0 := 0) rfl rfl)) rfl rfl hl.1 rfl (lv_room (Nat.le_of_ble_eq_true rfl)) dX9_next_5 ⟨Nat.le_of_ble_eq_true rfl, Nat.le_of_ble_eq_true rfl⟩) (fun r_12 er_11 => ?_)
      have er_11 := er_11.symm
      subst er_11
      refine lv_bipush (v := 32) hx hb dX9_next_8 (by decide) ?_
      refine lv_icmp_ne (tgt := 26) hx hb dX9_next_10 (by decide) (fun c_13 => ?_) (fun c_13 => ?_)
      · have hf := (if_neg c_13).symm.trans hf
        cases hf
        have hc_6 : some S_1 = some o_8 := hc_6
        cases hc_6
        exact kx_3 _ _ _ hP hD hS (lv_sub hl [0] rfl)
      · have hf := (if_pos c_13).symm.trans hf
        refine lv_aload_n hx hb dX9_next_13 rfl (lv_at hl 0 rfl) ?_
        refine lv_dup hx hb dX9_next_14 rfl ?_
        refine va_get (D := (g.1, g.2.1)) (ci := 9) (v := .int (S_1.1 19)) (C := RX9) (T := TX9) (N := 39) hx hb hts in_X9 hown hK hP 0 rfl rfl 19 (by decide) (hts _ q875) (fun _ h9 => h9) rfl dX9_next_15 ?_
        refine lv_iconst (v := 1) hx hb dX9_next_18 (by decide) ?_
        refine lv_iadd hx hb dX9_next_19 ?_
        refine va_put (D := (g.1, g.2.1)) (ci := 9) (v := .int ((S_1.1 19) + 1)) (ty := .int) (C := RX9) (T := TX9) (N := 39) hx hb hts in_X9 tyX9 tyX9_ok nmX9 hown hK hP hD hS 0 rfl rfl 19 (by decide) (hts _ q875) (fun _ h9 => h9) rfl (by decide +kernel) rfl rfl (Nat.le_of_ble_eq_true rfl) dX9_next_20 (fun H locs hP hD hS => ?_)
        obtain ⟨S_14, eS_14, hf⟩ := sm_lt_e hf
        have hP : PP g (WM g ad S_14) H := by rw [eS_14]; exact pmf19 hP
        have hD : va_D (AM ad) (WM g ad S_14) := by rw [eS_14]; exact dmf19 hD
        refine lv_goto (tgt := 0) hx hb dX9_next_23 (by decide) ?_
        cases hf
        exact ih_2 _ _ _ _ _ hc_6 hP hD hS (lv_sub hl [0] rfl) kx_3
  obtain ⟨S_16, ho, hf⟩ := sm_b1_e hf
  refine L_7 FU S S_16 s.heap [] ls ho hP hD hS (lv_sub hl [0] rfl) ?_
  intro H locs ls hP hD hS hl
  refine lv_aload_n hx hb dX9_next_26 rfl (lv_at hl 0 rfl) ?_
  refine lv_aload_n hx hb dX9_next_27 rfl (lv_at hl 0 rfl) ?_
  refine va_get (D := (g.1, g.2.1)) (ci := 9) (v := .int (S_16.1 19)) (C := RX9) (T := TX9) (N := 39) hx hb hts in_X9 hown hK hP 0 rfl rfl 19 (by decide) (hts _ q875) (fun _ h9 => h9) rfl dX9_next_28 ?_
  refine va_put (D := (g.1, g.2.1)) (ci := 9) (v := .int (S_16.1 19)) (ty := .int) (C := RX9) (T := TX9) (N := 39) hx hb hts in_X9 tyX9 tyX9_ok nmX9 hown hK hP hD hS 0 rfl rfl 20 (by decide) (hts _ q876) (fun _ h9 => h9) rfl (by decide +kernel) rfl rfl (Nat.le_of_ble_eq_true rfl) dX9_next_31 (fun H locs hP hD hS => ?_)
  obtain ⟨S_17, eS_17, hf⟩ := sm_lt_e hf
  have hP : PP g (WM g ad S_17) H := by rw [eS_17]; exact pmf20 hP
  have hD : va_D (AM ad) (WM g ad S_17) := by rw [eS_17]; exact dmf20 hD
  refine lv_aload_n hx hb dX9_next_34 rfl (lv_at hl 0 rfl) ?_
  refine lv_aload_n hx hb dX9_next_35 rfl (lv_at hl 0 rfl) ?_
  refine va_get (D := (g.1, g.2.1)) (ci := 9) (v := .int (S_17.1 19)) (C := RX9) (T := TX9) (N := 39) hx hb hts in_X9 hown hK hP 0 rfl rfl 19 (by decide) (hts _ q875) (fun _ h9 => h9) rfl dX9_next_36 ?_
  obtain ⟨r_18, h_19, hf⟩ := sm_b1_e hf
  refine vp_callSi (W.runV (As := [.int (S_17.1 19)]) (rest := []) ⟨hx, hb, hml, hown, hts⟩ (wX9_letterAt l g ad S_17 (S_17.1 19) r_18 h_19) (cwV 1 hts (lw_V q994 q996 qs23 q70 q997) rfl rfl rfl (by decide +kernel) ⟨Nat.le_of_ble_eq_true rfl, Nat.le_of_ble_eq_true rfl⟩) (sm_pv hE hP (va_recv hK hP (ci := 9) (q0 := 0) rfl rfl)) rfl rfl hl.1 rfl (lv_room (Nat.le_of_ble_eq_true rfl)) dX9_next_39 ⟨Nat.le_of_ble_eq_true rfl, Nat.le_of_ble_eq_true rfl⟩) (fun r_21 er_20 => ?_)
  have er_20 := er_20.symm
  subst er_20
  refine lv_istore_n (lv' := [(1, .int r_18), (0, .ref (ad 0))]) hx hb dX9_next_42 rfl hl (by decide) rfl (fun ls hl => ?_)
  refine lv_iload_n hx hb dX9_next_43 rfl (lv_at hl 0 rfl) ?_
  refine lv_if_ge (tgt := 53) hx hb dX9_next_44 (by decide) (fun c_22 => ?_) (fun c_22 => ?_)
  · have hf := (if_pos c_22).symm.trans hf
    refine lv_aload_n hx hb dX9_next_53 rfl (lv_at hl 1 rfl) ?_
    refine lv_dup hx hb dX9_next_54 rfl ?_
    refine va_get (D := (g.1, g.2.1)) (ci := 9) (v := .int (S_17.1 19)) (C := RX9) (T := TX9) (N := 39) hx hb hts in_X9 hown hK hP 0 rfl rfl 19 (by decide) (hts _ q875) (fun _ h9 => h9) rfl dX9_next_55 ?_
    refine lv_iconst (v := 1) hx hb dX9_next_58 (by decide) ?_
    refine lv_iadd hx hb dX9_next_59 ?_
    refine va_put (D := (g.1, g.2.1)) (ci := 9) (v := .int ((S_17.1 19) + 1)) (ty := .int) (C := RX9) (T := TX9) (N := 39) hx hb hts in_X9 tyX9 tyX9_ok nmX9 hown hK hP hD hS 0 rfl rfl 19 (by decide) (hts _ q875) (fun _ h9 => h9) rfl (by decide +kernel) rfl rfl (Nat.le_of_ble_eq_true rfl) dX9_next_60 (fun H locs hP hD hS => ?_)
    obtain ⟨S_23, eS_23, hf⟩ := sm_lt_e hf
    have hP : PP g (WM g ad S_23) H := by rw [eS_23]; exact pmf19 hP
    have hD : va_D (AM ad) (WM g ad S_23) := by rw [eS_23]; exact dmf19 hD
    refine lv_aload_n hx hb dX9_next_63 rfl (lv_at hl 1 rfl) ?_
    refine lv_iload_n hx hb dX9_next_64 rfl (lv_at hl 0 rfl) ?_
    refine va_put (D := (g.1, g.2.1)) (ci := 9) (v := .int r_18) (ty := .int) (C := RX9) (T := TX9) (N := 39) hx hb hts in_X9 tyX9 tyX9_ok nmX9 hown hK hP hD hS 0 rfl rfl 22 (by decide) (hts _ q878) (fun _ h9 => h9) rfl (by decide +kernel) rfl rfl (Nat.le_of_ble_eq_true rfl) dX9_next_65 (fun H locs hP hD hS => ?_)
    obtain ⟨S_24, eS_24, hf⟩ := sm_lt_e hf
    have hP : PP g (WM g ad S_24) H := by rw [eS_24]; exact pmf22 hP
    have hD : va_D (AM ad) (WM g ad S_24) := by rw [eS_24]; exact dmf22 hD
    refine lv_aload_n hx hb dX9_next_68 rfl (lv_at hl 1 rfl) ?_
    refine lv_iload_n hx hb dX9_next_69 rfl (lv_at hl 0 rfl) ?_
    refine lv_bipush (v := 113) hx hb dX9_next_70 (by decide) ?_
    obtain ⟨x_25, hf, hf0⟩ := sm_b1_e hf
    suffices hj_26 : ∀ (ls : Array Slot), lv_has ls 3 [(1, .int r_18), (0, .ref (ad 0))] → W p l e rX9_next s m args below meth c H locs 0 0 Q (F0 m 114 ls [.int x_25, .ref (ad 0)]) from by
      refine lv_icmp_eq (tgt := 99) hx hb dX9_next_72 (by decide) (fun c_27 => ?_) (fun c_27 => ?_)
      · have hf := (if_pos c_27).symm.trans hf
        refine lv_iconst (v := 1) hx hb dX9_next_99 (by decide) ?_
        refine lv_goto (tgt := 114) hx hb dX9_next_100 (by decide) ?_
        cases hf
        exact hj_26 _ (lv_sub hl [0, 1] rfl)
      · have hf := (if_neg c_27).symm.trans hf
        refine lv_iload_n hx hb dX9_next_75 rfl (lv_at hl 0 rfl) ?_
        refine lv_bipush (v := 114) hx hb dX9_next_76 (by decide) ?_
        refine lv_icmp_eq (tgt := 99) hx hb dX9_next_78 (by decide) (fun c_28 => ?_) (fun c_28 => ?_)
        · have hf := (if_pos c_28).symm.trans hf
          refine lv_iconst (v := 1) hx hb dX9_next_99 (by decide) ?_
          refine lv_goto (tgt := 114) hx hb dX9_next_100 (by decide) ?_
          cases hf
          exact hj_26 _ (lv_sub hl [0, 1] rfl)
        · have hf := (if_neg c_28).symm.trans hf
          refine lv_iload_n hx hb dX9_next_81 rfl (lv_at hl 0 rfl) ?_
          refine lv_bipush (v := 98) hx hb dX9_next_82 (by decide) ?_
          refine lv_icmp_eq (tgt := 99) hx hb dX9_next_84 (by decide) (fun c_29 => ?_) (fun c_29 => ?_)
          · have hf := (if_pos c_29).symm.trans hf
            refine lv_iconst (v := 1) hx hb dX9_next_99 (by decide) ?_
            refine lv_goto (tgt := 114) hx hb dX9_next_100 (by decide) ?_
            cases hf
            exact hj_26 _ (lv_sub hl [0, 1] rfl)
          · have hf := (if_neg c_29).symm.trans hf
            refine lv_iload_n hx hb dX9_next_87 rfl (lv_at hl 0 rfl) ?_
            refine lv_bipush (v := 116) hx hb dX9_next_88 (by decide) ?_
            refine lv_icmp_eq (tgt := 99) hx hb dX9_next_90 (by decide) (fun c_30 => ?_) (fun c_30 => ?_)
            · have hf := (if_pos c_30).symm.trans hf
              refine lv_iconst (v := 1) hx hb dX9_next_99 (by decide) ?_
              refine lv_goto (tgt := 114) hx hb dX9_next_100 (by decide) ?_
              cases hf
              exact hj_26 _ (lv_sub hl [0, 1] rfl)
            · have hf := (if_neg c_30).symm.trans hf
              refine lv_iload_n hx hb dX9_next_93 rfl (lv_at hl 0 rfl) ?_
              refine lv_bipush (v := 107) hx hb dX9_next_94 (by decide) ?_
              refine lv_icmp_ne (tgt := 103) hx hb dX9_next_96 (by decide) (fun c_31 => ?_) (fun c_31 => ?_)
              · have hf := (if_neg c_31).symm.trans hf
                refine lv_iload_n hx hb dX9_next_103 rfl (lv_at hl 0 rfl) ?_
                refine lv_bipush (v := 59) hx hb dX9_next_104 (by decide) ?_
                refine lv_icmp_ne (tgt := 113) hx hb dX9_next_106 (by decide) (fun c_32 => ?_) (fun c_32 => ?_)
                · have hf := (if_neg c_32).symm.trans hf
                  refine lv_iconst (v := 4) hx hb dX9_next_113 (by decide) ?_
                  cases hf
                  exact hj_26 _ (lv_sub hl [0, 1] rfl)
                · have hf := (if_pos c_32).symm.trans hf
                  refine lv_iconst (v := 3) hx hb dX9_next_109 (by decide) ?_
                  refine lv_goto (tgt := 114) hx hb dX9_next_110 (by decide) ?_
                  cases hf
                  exact hj_26 _ (lv_sub hl [0, 1] rfl)
              · have hf := (if_pos c_31).symm.trans hf
                refine lv_iconst (v := 1) hx hb dX9_next_99 (by decide) ?_
                refine lv_goto (tgt := 114) hx hb dX9_next_100 (by decide) ?_
                cases hf
                exact hj_26 _ (lv_sub hl [0, 1] rfl)
    intro ls hl
    have hf := hf0
    refine va_put (D := (g.1, g.2.1)) (ci := 9) (v := .int x_25) (ty := .int) (C := RX9) (T := TX9) (N := 39) hx hb hts in_X9 tyX9 tyX9_ok nmX9 hown hK hP hD hS 0 rfl rfl 21 (by decide) (hts _ q877) (fun _ h9 => h9) rfl (by decide +kernel) rfl rfl (Nat.le_of_ble_eq_true rfl) dX9_next_114 (fun H locs hP hD hS => ?_)
    obtain ⟨S_33, eS_33, hf⟩ := sm_lt_e hf
    have hP : PP g (WM g ad S_33) H := by rw [eS_33]; exact pmf21 hP
    have hD : va_D (AM ad) (WM g ad S_33) := by rw [eS_33]; exact dmf21 hD
    refine lv_iload_n hx hb dX9_next_117 rfl (lv_at hl 0 rfl) ?_
    refine lv_bipush (v := 48) hx hb dX9_next_118 (by decide) ?_
    refine lv_bipush (v := 57) hx hb dX9_next_120 (by decide) ?_
    refine vp_callSi (W.runS (As := [.int r_18, .int 48, .int 57]) (rest := []) ⟨hx, hb, hml, hown, hts⟩ (wX9_in l r_18 48 57 (fX9_in r_18 48 57) rfl) (va_cwS 3 hts (lw_S q979 q980 q70 q981) rfl rfl rfl (by decide +kernel) ⟨Nat.le_of_ble_eq_true rfl, Nat.le_of_ble_eq_true rfl⟩) (sm_ps) rfl rfl hl.1 rfl (lv_room (Nat.le_of_ble_eq_true rfl)) dX9_next_122 ⟨Nat.le_of_ble_eq_true rfl, Nat.le_of_ble_eq_true rfl⟩) (fun r_35 er_34 => ?_)
    have er_34 := er_34.symm
    subst er_34
    refine lv_if_eq (tgt := 271) hx hb dX9_next_125 (by decide) (fun c_36 => ?_) (fun c_36 => ?_)
    · have hf := (if_pos c_36).symm.trans hf
      have hf := Option.some.inj hf
      rw [← hQ]
      exact W.vret hx hb hr (fun t ht hW => ⟨⟨(), rfl, trivial, by rw [ht, ← hf]; exact hP, by rw [← hf]; exact hD⟩, hS.F ht⟩) hS.2.2 dX9_next_271
    · have hf := (if_neg c_36).symm.trans hf
      refine lv_aload_n hx hb dX9_next_128 rfl (lv_at hl 1 rfl) ?_
      refine lv_iload_n hx hb dX9_next_129 rfl (lv_at hl 0 rfl) ?_
      refine lv_bipush (v := 48) hx hb dX9_next_130 (by decide) ?_
      refine lv_isub hx hb dX9_next_132 ?_
      refine va_put (D := (g.1, g.2.1)) (ci := 9) (v := .int (r_18 - 48)) (ty := .int) (C := RX9) (T := TX9) (N := 39) hx hb hts in_X9 tyX9 tyX9_ok nmX9 hown hK hP hD hS 0 rfl rfl 22 (by decide) (hts _ q878) (fun _ h9 => h9) rfl (by decide +kernel) rfl rfl (Nat.le_of_ble_eq_true rfl) dX9_next_133 (fun H locs hP hD hS => ?_)
      obtain ⟨S_37, eS_37, hf⟩ := sm_lt_e hf
      have hP : PP g (WM g ad S_37) H := by rw [eS_37]; exact pmf22 hP
      have hD : va_D (AM ad) (WM g ad S_37) := by rw [eS_37]; exact dmf22 hD
      have L_44 : ∀ (n : Nat) (S_38 : MS) (o_45 : MS) (H : Heap) (locs : List Loc) (ls : Array Slot), sm_lp (fun q => fX9_next_136 q) n S_38 = some o_45 → PP g (WM g ad S_38) H → va_D (AM ad) (WM g ad S_38) → va_S (AM ad) s.heap H locs → lv_has ls 3 [(1, .int r_18), (0, .ref (ad 0))] → (∀ (H : Heap) (locs : List Loc) (ls : Array Slot), PP g (WM g ad o_45) H → va_D (AM ad) (WM g ad o_45) → va_S (AM ad) s.heap H locs → lv_has ls 3 [(1, .int r_18), (0, .ref (ad 0))] → W p l e rX9_next s m args below meth c H locs 0 0 Q (F0 m 210 ls [])) → W p l e rX9_next s m args below meth c H locs 0 0 Q (F0 m 136 ls []) := by
        intro n
        induction n with
        | zero =>
          intro _ _ _ _ _ hf
          cases hf
        | succ n ih_39 =>
          intro S_38 o_45 H locs ls hf hP hD hS hl kx_40
          obtain ⟨q, hf, hc_43⟩ := sm_bnd hf
          have hf : fX9_next_136 S_38 = some q := hf
          unfold fX9_next_136 at hf
          refine lv_aload_n hx hb dX9_next_136 rfl (lv_at hl 1 rfl) ?_
          refine lv_aload_n hx hb dX9_next_137 rfl (lv_at hl 1 rfl) ?_
          refine va_get (D := (g.1, g.2.1)) (ci := 9) (v := .int (S_38.1 19)) (C := RX9) (T := TX9) (N := 39) hx hb hts in_X9 hown hK hP 0 rfl rfl 19 (by decide) (hts _ q875) (fun _ h9 => h9) rfl dX9_next_138 ?_
          obtain ⟨r_46, h_47, hf⟩ := sm_b1_e hf
          refine vp_callSi (W.runV (As := [.int (S_38.1 19)]) (rest := []) ⟨hx, hb, hml, hown, hts⟩ (wX9_letterAt l g ad S_38 (S_38.1 19) r_46 h_47) (cwV 1 hts (lw_V q994 q996 qs23 q70 q997) rfl rfl rfl (by decide +kernel) ⟨Nat.le_of_ble_eq_true rfl, Nat.le_of_ble_eq_true rfl⟩) (sm_pv hE hP (va_recv hK hP (ci := 9) (q0 := 0) rfl rfl)) rfl rfl hl.1 rfl (lv_room (Nat.le_of_ble_eq_true rfl)) dX9_next_141 ⟨Nat.le_of_ble_eq_true rfl, Nat.le_of_ble_eq_true rfl⟩) (fun r_49 er_48 => ?_)
          have er_48 := er_48.symm
          subst er_48
          refine lv_bipush (v := 48) hx hb dX9_next_144 (by decide) ?_
          refine lv_bipush (v := 57) hx hb dX9_next_146 (by decide) ?_
          refine vp_callSi (W.runS (As := [.int r_46, .int 48, .int 57]) (rest := []) ⟨hx, hb, hml, hown, hts⟩ (wX9_in l r_46 48 57 (fX9_in r_46 48 57) rfl) (va_cwS 3 hts (lw_S q979 q980 q70 q981) rfl rfl rfl (by decide +kernel) ⟨Nat.le_of_ble_eq_true rfl, Nat.le_of_ble_eq_true rfl⟩) (sm_ps) rfl rfl hl.1 rfl (lv_room (Nat.le_of_ble_eq_true rfl)) dX9_next_148 ⟨Nat.le_of_ble_eq_true rfl, Nat.le_of_ble_eq_true rfl⟩) (fun r_51 er_50 => ?_)
          have er_50 := er_50.symm
          subst er_50
          refine lv_if_eq (tgt := 210) hx hb dX9_next_151 (by decide) (fun c_52 => ?_) (fun c_52 => ?_)
          · have hf := (if_pos c_52).symm.trans hf
            cases hf
            have hc_43 : some S_38 = some o_45 := hc_43
            cases hc_43
            exact kx_40 _ _ _ hP hD hS (lv_sub hl [0, 1] rfl)
          · have hf := (if_neg c_52).symm.trans hf
            refine lv_aload_n hx hb dX9_next_154 rfl (lv_at hl 1 rfl) ?_
            refine lv_aload_n hx hb dX9_next_155 rfl (lv_at hl 1 rfl) ?_
            refine va_get (D := (g.1, g.2.1)) (ci := 9) (v := .int (S_38.1 19)) (C := RX9) (T := TX9) (N := 39) hx hb hts in_X9 hown hK hP 0 rfl rfl 19 (by decide) (hts _ q875) (fun _ h9 => h9) rfl dX9_next_156 ?_
            refine lv_aload_n hx hb dX9_next_159 rfl (lv_at hl 1 rfl) ?_
            refine va_get (D := (g.1, g.2.1)) (ci := 9) (v := .int (S_38.1 20)) (C := RX9) (T := TX9) (N := 39) hx hb hts in_X9 hown hK hP 0 rfl rfl 20 (by decide) (hts _ q876) (fun _ h9 => h9) rfl dX9_next_160 ?_
            refine lv_isub hx hb dX9_next_163 ?_
            refine lv_iconst (v := 4) hx hb dX9_next_164 (by decide) ?_
            obtain ⟨x_53, hf, hf0⟩ := sm_b1_e hf
            suffices hj_54 : ∀ (ls : Array Slot), lv_has ls 3 [(1, .int r_18), (0, .ref (ad 0))] → W p l e rX9_next s m args below meth c H locs 0 0 Q (F0 m 194 ls [.int x_53, .ref (ad 0)]) from by
              refine lv_icmp_ge (tgt := 190) hx hb dX9_next_165 (by decide) (fun c_55 => ?_) (fun c_55 => ?_)
              · have hf := (if_pos c_55).symm.trans hf
                refine lv_aload_n hx hb dX9_next_190 rfl (lv_at hl 1 rfl) ?_
                refine va_get (D := (g.1, g.2.1)) (ci := 9) (v := .int (S_38.1 22)) (C := RX9) (T := TX9) (N := 39) hx hb hts in_X9 hown hK hP 0 rfl rfl 22 (by decide) (hts _ q878) (fun _ h9 => h9) rfl dX9_next_191 ?_
                cases hf
                exact hj_54 _ (lv_sub hl [0, 1] rfl)
              · have hf := (if_neg c_55).symm.trans hf
                refine lv_bipush (v := 10) hx hb dX9_next_168 (by decide) ?_
                refine lv_aload_n hx hb dX9_next_170 rfl (lv_at hl 1 rfl) ?_
                refine va_get (D := (g.1, g.2.1)) (ci := 9) (v := .int (S_38.1 22)) (C := RX9) (T := TX9) (N := 39) hx hb hts in_X9 hown hK hP 0 rfl rfl 22 (by decide) (hts _ q878) (fun _ h9 => h9) rfl dX9_next_171 ?_
                refine lv_imul hx hb dX9_next_174 ?_
                refine lv_aload_n hx hb dX9_next_175 rfl (lv_at hl 1 rfl) ?_
                refine lv_aload_n hx hb dX9_next_176 rfl (lv_at hl 1 rfl) ?_
                refine va_get (D := (g.1, g.2.1)) (ci := 9) (v := .int (S_38.1 19)) (C := RX9) (T := TX9) (N := 39) hx hb hts in_X9 hown hK hP 0 rfl rfl 19 (by decide) (hts _ q875) (fun _ h9 => h9) rfl dX9_next_177 ?_
                obtain ⟨r_56, h_57, hf⟩ := sm_b1_e hf
                refine vp_callSi (W.runV (As := [.int (S_38.1 19)]) (rest := [.int (10 * (S_38.1 22)), .ref (ad 0)]) ⟨hx, hb, hml, hown, hts⟩ (wX9_letterAt l g ad S_38 (S_38.1 19) r_56 h_57) (cwV 1 hts (lw_V q994 q996 qs23 q70 q997) rfl rfl rfl (by decide +kernel) ⟨Nat.le_of_ble_eq_true rfl, Nat.le_of_ble_eq_true rfl⟩) (sm_pv hE hP (va_recv hK hP (ci := 9) (q0 := 0) rfl rfl)) rfl rfl hl.1 rfl (lv_room (Nat.le_of_ble_eq_true rfl)) dX9_next_180 ⟨Nat.le_of_ble_eq_true rfl, Nat.le_of_ble_eq_true rfl⟩) (fun r_59 er_58 => ?_)
                have er_58 := er_58.symm
                subst er_58
                refine lv_iadd hx hb dX9_next_183 ?_
                refine lv_bipush (v := 48) hx hb dX9_next_184 (by decide) ?_
                refine lv_isub hx hb dX9_next_186 ?_
                refine lv_goto (tgt := 194) hx hb dX9_next_187 (by decide) ?_
                cases hf
                exact hj_54 _ (lv_sub hl [0, 1] rfl)
            intro ls hl
            have hf := hf0
            refine va_put (D := (g.1, g.2.1)) (ci := 9) (v := .int x_53) (ty := .int) (C := RX9) (T := TX9) (N := 39) hx hb hts in_X9 tyX9 tyX9_ok nmX9 hown hK hP hD hS 0 rfl rfl 22 (by decide) (hts _ q878) (fun _ h9 => h9) rfl (by decide +kernel) rfl rfl (Nat.le_of_ble_eq_true rfl) dX9_next_194 (fun H locs hP hD hS => ?_)
            obtain ⟨S_60, eS_60, hf⟩ := sm_lt_e hf
            have hP : PP g (WM g ad S_60) H := by rw [eS_60]; exact pmf22 hP
            have hD : va_D (AM ad) (WM g ad S_60) := by rw [eS_60]; exact dmf22 hD
            refine lv_aload_n hx hb dX9_next_197 rfl (lv_at hl 1 rfl) ?_
            refine lv_dup hx hb dX9_next_198 rfl ?_
            refine va_get (D := (g.1, g.2.1)) (ci := 9) (v := .int (S_60.1 19)) (C := RX9) (T := TX9) (N := 39) hx hb hts in_X9 hown hK hP 0 rfl rfl 19 (by decide) (hts _ q875) (fun _ h9 => h9) rfl dX9_next_199 ?_
            refine lv_iconst (v := 1) hx hb dX9_next_202 (by decide) ?_
            refine lv_iadd hx hb dX9_next_203 ?_
            refine va_put (D := (g.1, g.2.1)) (ci := 9) (v := .int ((S_60.1 19) + 1)) (ty := .int) (C := RX9) (T := TX9) (N := 39) hx hb hts in_X9 tyX9 tyX9_ok nmX9 hown hK hP hD hS 0 rfl rfl 19 (by decide) (hts _ q875) (fun _ h9 => h9) rfl (by decide +kernel) rfl rfl (Nat.le_of_ble_eq_true rfl) dX9_next_204 (fun H locs hP hD hS => ?_)
            obtain ⟨S_61, eS_61, hf⟩ := sm_lt_e hf
            have hP : PP g (WM g ad S_61) H := by rw [eS_61]; exact pmf19 hP
            have hD : va_D (AM ad) (WM g ad S_61) := by rw [eS_61]; exact dmf19 hD
            refine lv_goto (tgt := 136) hx hb dX9_next_207 (by decide) ?_
            cases hf
            exact ih_39 _ _ _ _ _ hc_43 hP hD hS (lv_sub hl [0, 1] rfl) kx_40
      obtain ⟨S_63, ho, hf⟩ := sm_b1_e hf
      refine L_44 FU S_37 S_63 H locs ls ho hP hD hS (lv_sub hl [0, 1] rfl) ?_
      intro H locs ls hP hD hS hl
      refine lv_aload_n hx hb dX9_next_210 rfl (lv_at hl 1 rfl) ?_
      refine va_get (D := (g.1, g.2.1)) (ci := 9) (v := .int (S_63.1 19)) (C := RX9) (T := TX9) (N := 39) hx hb hts in_X9 hown hK hP 0 rfl rfl 19 (by decide) (hts _ q875) (fun _ h9 => h9) rfl dX9_next_211 ?_
      refine lv_aload_n hx hb dX9_next_214 rfl (lv_at hl 1 rfl) ?_
      refine va_get (D := (g.1, g.2.1)) (ci := 9) (v := .int (S_63.1 20)) (C := RX9) (T := TX9) (N := 39) hx hb hts in_X9 hown hK hP 0 rfl rfl 20 (by decide) (hts _ q876) (fun _ h9 => h9) rfl dX9_next_215 ?_
      refine lv_isub hx hb dX9_next_218 ?_
      refine lv_iconst (v := 5) hx hb dX9_next_219 (by decide) ?_
      obtain ⟨x_64, hf, hf0⟩ := sm_b1_e hf
      suffices hj_65 : ∀ (ls : Array Slot), lv_has ls 3 [(1, .int r_18), (0, .ref (ad 0))] → W p l e rX9_next s m args below meth c H locs 0 0 Q (F0 m 257 ls [.int x_64]) from by
        refine lv_icmp_ge (tgt := 256) hx hb dX9_next_220 (by decide) (fun c_66 => ?_) (fun c_66 => ?_)
        · have hf := (if_pos c_66).symm.trans hf
          refine lv_iconst (v := 0) hx hb dX9_next_256 (by decide) ?_
          cases hf
          exact hj_65 _ (lv_sub hl [0, 1] rfl)
        · have hf := (if_neg c_66).symm.trans hf
          refine lv_aload_n hx hb dX9_next_223 rfl (lv_at hl 1 rfl) ?_
          refine va_get (D := (g.1, g.2.1)) (ci := 9) (v := .int (S_63.1 22)) (C := RX9) (T := TX9) (N := 39) hx hb hts in_X9 hown hK hP 0 rfl rfl 22 (by decide) (hts _ q878) (fun _ h9 => h9) rfl dX9_next_224 ?_
          refine lv_sipush (v := 1024) hx hb dX9_next_227 (by decide) ?_
          refine lv_icmp_ge (tgt := 256) hx hb dX9_next_230 (by decide) (fun c_67 => ?_) (fun c_67 => ?_)
          · have hf := (if_pos c_67).symm.trans hf
            refine lv_iconst (v := 0) hx hb dX9_next_256 (by decide) ?_
            cases hf
            exact hj_65 _ (lv_sub hl [0, 1] rfl)
          · have hf := (if_neg c_67).symm.trans hf
            refine lv_iload_n hx hb dX9_next_233 rfl (lv_at hl 0 rfl) ?_
            refine lv_bipush (v := 48) hx hb dX9_next_234 (by decide) ?_
            refine lv_icmp_ne (tgt := 252) hx hb dX9_next_236 (by decide) (fun c_68 => ?_) (fun c_68 => ?_)
            · have hf := (if_neg c_68).symm.trans hf
              refine lv_iconst (v := 1) hx hb dX9_next_252 (by decide) ?_
              refine lv_goto (tgt := 257) hx hb dX9_next_253 (by decide) ?_
              cases hf
              exact hj_65 _ (lv_sub hl [0, 1] rfl)
            · have hf := (if_pos c_68).symm.trans hf
              refine lv_aload_n hx hb dX9_next_239 rfl (lv_at hl 1 rfl) ?_
              refine va_get (D := (g.1, g.2.1)) (ci := 9) (v := .int (S_63.1 19)) (C := RX9) (T := TX9) (N := 39) hx hb hts in_X9 hown hK hP 0 rfl rfl 19 (by decide) (hts _ q875) (fun _ h9 => h9) rfl dX9_next_240 ?_
              refine lv_aload_n hx hb dX9_next_243 rfl (lv_at hl 1 rfl) ?_
              refine va_get (D := (g.1, g.2.1)) (ci := 9) (v := .int (S_63.1 20)) (C := RX9) (T := TX9) (N := 39) hx hb hts in_X9 hown hK hP 0 rfl rfl 20 (by decide) (hts _ q876) (fun _ h9 => h9) rfl dX9_next_244 ?_
              refine lv_isub hx hb dX9_next_247 ?_
              refine lv_iconst (v := 1) hx hb dX9_next_248 (by decide) ?_
              refine lv_icmp_ne (tgt := 256) hx hb dX9_next_249 (by decide) (fun c_69 => ?_) (fun c_69 => ?_)
              · have hf := (if_neg c_69).symm.trans hf
                refine lv_iconst (v := 0) hx hb dX9_next_256 (by decide) ?_
                cases hf
                exact hj_65 _ (lv_sub hl [0, 1] rfl)
              · have hf := (if_pos c_69).symm.trans hf
                refine lv_iconst (v := 1) hx hb dX9_next_252 (by decide) ?_
                refine lv_goto (tgt := 257) hx hb dX9_next_253 (by decide) ?_
                cases hf
                exact hj_65 _ (lv_sub hl [0, 1] rfl)
      intro ls hl
      have hf := hf0
      refine lv_istore_n (lv' := [(2, .int x_64), (1, .int r_18), (0, .ref (ad 0))]) hx hb dX9_next_257 rfl hl (by decide) rfl (fun ls hl => ?_)
      refine lv_aload_n hx hb dX9_next_258 rfl (lv_at hl 2 rfl) ?_
      refine lv_iload_n hx hb dX9_next_259 rfl (lv_at hl 0 rfl) ?_
      obtain ⟨x_70, hf, hf0⟩ := sm_b1_e hf
      suffices hj_71 : ∀ (ls : Array Slot), lv_has ls 3 [(2, .int x_64), (1, .int r_18), (0, .ref (ad 0))] → W p l e rX9_next s m args below meth c H locs 0 0 Q (F0 m 268 ls [.int x_70, .ref (ad 0)]) from by
        refine lv_if_eq (tgt := 267) hx hb dX9_next_260 (by decide) (fun c_72 => ?_) (fun c_72 => ?_)
        · have hf := (if_pos c_72).symm.trans hf
          refine lv_iconst (v := 4) hx hb dX9_next_267 (by decide) ?_
          cases hf
          exact hj_71 _ (lv_sub hl [0, 1, 2] rfl)
        · have hf := (if_neg c_72).symm.trans hf
          refine lv_iconst (v := 2) hx hb dX9_next_263 (by decide) ?_
          refine lv_goto (tgt := 268) hx hb dX9_next_264 (by decide) ?_
          cases hf
          exact hj_71 _ (lv_sub hl [0, 1, 2] rfl)
      intro ls hl
      have hf := hf0
      refine va_put (D := (g.1, g.2.1)) (ci := 9) (v := .int x_70) (ty := .int) (C := RX9) (T := TX9) (N := 39) hx hb hts in_X9 tyX9 tyX9_ok nmX9 hown hK hP hD hS 0 rfl rfl 21 (by decide) (hts _ q877) (fun _ h9 => h9) rfl (by decide +kernel) rfl rfl (Nat.le_of_ble_eq_true rfl) dX9_next_268 (fun H locs hP hD hS => ?_)
      obtain ⟨S_73, eS_73, hf⟩ := sm_lt_e hf
      have hP : PP g (WM g ad S_73) H := by rw [eS_73]; exact pmf21 hP
      have hD : va_D (AM ad) (WM g ad S_73) := by rw [eS_73]; exact dmf21 hD
      have hf := Option.some.inj hf
      rw [← hQ]
      exact W.vret hx hb hr (fun t ht hW => ⟨⟨(), rfl, trivial, by rw [ht, ← hf]; exact hP, by rw [← hf]; exact hD⟩, hS.F ht⟩) hS.2.2 dX9_next_271
  · have hf := (if_neg c_22).symm.trans hf
    refine lv_aload_n hx hb dX9_next_47 rfl (lv_at hl 1 rfl) ?_
    refine lv_iconst (v := 0) hx hb dX9_next_48 (by decide) ?_
    refine va_put (D := (g.1, g.2.1)) (ci := 9) (v := .int 0) (ty := .int) (C := RX9) (T := TX9) (N := 39) hx hb hts in_X9 tyX9 tyX9_ok nmX9 hown hK hP hD hS 0 rfl rfl 21 (by decide) (hts _ q877) (fun _ h9 => h9) rfl (by decide +kernel) rfl rfl (Nat.le_of_ble_eq_true rfl) dX9_next_49 (fun H locs hP hD hS => ?_)
    obtain ⟨S_74, eS_74, hf⟩ := sm_lt_e hf
    have hP : PP g (WM g ad S_74) H := by rw [eS_74]; exact pmf21 hP
    have hD : va_D (AM ad) (WM g ad S_74) := by rw [eS_74]; exact dmf21 hD
    have hf := Option.some.inj hf
    rw [← hQ]
    exact W.vret hx hb hr (fun t ht hW => ⟨⟨(), rfl, trivial, by rw [ht, ← hf]; exact hP, by rw [← hf]; exact hD⟩, hS.F ht⟩) hS.2.2 dX9_next_52
abbrev rX9_must : Room := { frames := 2, cells := 0, slots := 0, locals := 44 }
set_option maxHeartbeats 4000000 in
theorem wX9_must (l : Launch) (g : GG) (ad : Nat → Nat) (S : MS) (a1 : Int32) (Sf : MS) (hf : fX9_must S a1 = some Sf) : Met l yX9_must (ws_ yX9_must cX9_must 2 none) rX9_must (va_Pc [.ref (ad 0), .int a1] (fun U => PP g (WM g ad S) U.heap ∧ EV g U ∧ va_D (AM ad) (WM g ad S))) (va_Qv (fun (_ : Unit) => True) (fun _ t => PP g (WM g ad Sf) t.heap ∧ va_D (AM ad) (WM g ad Sf)) (AM ad)) 0 0 (AM ad) := by
  refine sm_st (by decide) ?_
  intro p e s m args below meth c hx hb hr hlocks hml hown hnm hts hv
  obtain ⟨hargs, hP, hE, hD⟩ := hv
  obtain ⟨hK, hN⟩ := id hE
  have hS : va_S (AM ad) s.heap s.heap [] := va_S.rf
  have hown : s.vm.findClass RX9 = some m.cls := hown
  refine sm_en _ (Nat.le_of_ble_eq_true rfl) hargs (fun ls hl => ?_)
  have hl : lv_has ls 2 [(0, .ref (ad 0)), (1, .int a1)] := hl
  generalize hQ : MQ below _ args s _ _ _ = Q
  unfold fX9_must at hf
  refine lv_aload_n hx hb dX9_must_0 rfl (lv_at hl 0 rfl) ?_
  refine lv_aload_n hx hb dX9_must_1 rfl (lv_at hl 0 rfl) ?_
  refine va_get (D := (g.1, g.2.1)) (ci := 9) (v := .int (S.1 23)) (C := RX9) (T := TX9) (N := 39) hx hb hts in_X9 hown hK hP 0 rfl rfl 23 (by decide) (hts _ q879) (fun _ h9 => h9) rfl dX9_must_2 ?_
  obtain ⟨x_1, hf, hf0⟩ := sm_b1_e hf
  suffices hj_2 : ∀ (ls : Array Slot), lv_has ls 2 [(0, .ref (ad 0)), (1, .int a1)] → W p l e rX9_must s m args below meth c s.heap [] 0 0 Q (F0 m 17 ls [.int x_1, .ref (ad 0)]) from by
    refine lv_if_ne (tgt := 12) hx hb dX9_must_5 (by decide) (fun c_3 => ?_) (fun c_3 => ?_)
    · have hf := (if_neg c_3).symm.trans hf
      refine lv_iconst (v := 1) hx hb dX9_must_12 (by decide) ?_
      refine lv_goto (tgt := 17) hx hb dX9_must_13 (by decide) ?_
      cases hf
      exact hj_2 _ (lv_sub hl [0, 1] rfl)
    · have hf := (if_pos c_3).symm.trans hf
      refine lv_iload_n hx hb dX9_must_8 rfl (lv_at hl 1 rfl) ?_
      refine lv_if_ne (tgt := 16) hx hb dX9_must_9 (by decide) (fun c_4 => ?_) (fun c_4 => ?_)
      · have hf := (if_neg c_4).symm.trans hf
        refine lv_iconst (v := 0) hx hb dX9_must_16 (by decide) ?_
        cases hf
        exact hj_2 _ (lv_sub hl [0, 1] rfl)
      · have hf := (if_pos c_4).symm.trans hf
        refine lv_iconst (v := 1) hx hb dX9_must_12 (by decide) ?_
        refine lv_goto (tgt := 17) hx hb dX9_must_13 (by decide) ?_
        cases hf
        exact hj_2 _ (lv_sub hl [0, 1] rfl)
  intro ls hl
  have hf := hf0
  obtain ⟨hg, hf⟩ := sm_gd_e hf
  refine va_put (D := (g.1, g.2.1)) (ci := 9) (v := .int x_1) (ty := .boolean) (C := RX9) (T := TX9) (N := 39) hx hb hts in_X9 tyX9 tyX9_ok nmX9 hown hK hP hD hS 0 rfl rfl 23 (by decide) (hts _ q879) (fun _ h9 => h9) rfl (by decide +kernel) (sm_bz_nar hg) (sm_bz_fit hg) (Nat.le_of_ble_eq_true rfl) dX9_must_17 (fun H locs hP hD hS => ?_)
  obtain ⟨S_5, eS_5, hf⟩ := sm_lt_e hf
  have hP : PP g (WM g ad S_5) H := by rw [eS_5]; exact pmf23 hP
  have hD : va_D (AM ad) (WM g ad S_5) := by rw [eS_5]; exact dmf23 hD
  refine lv_aload_n hx hb dX9_must_20 rfl (lv_at hl 0 rfl) ?_
  refine va_get (D := (g.1, g.2.1)) (ci := 9) (v := .int (S_5.1 23)) (C := RX9) (T := TX9) (N := 39) hx hb hts in_X9 hown hK hP 0 rfl rfl 23 (by decide) (hts _ q879) (fun _ h9 => h9) rfl dX9_must_21 ?_
  refine lv_if_ne (tgt := 31) hx hb dX9_must_24 (by decide) (fun c_6 => ?_) (fun c_6 => ?_)
  · have hf := (if_neg c_6).symm.trans hf
    have hf := Option.some.inj hf
    rw [← hQ]
    exact W.vret hx hb hr (fun t ht hW => ⟨⟨(), rfl, trivial, by rw [ht, ← hf]; exact hP, by rw [← hf]; exact hD⟩, hS.F ht⟩) hS.2.2 dX9_must_31
  · have hf := (if_pos c_6).symm.trans hf
    refine lv_aload_n hx hb dX9_must_27 rfl (lv_at hl 0 rfl) ?_
    obtain ⟨S_7, h_8, hf⟩ := sm_b1_e hf
    refine va_callv (va_runV (As := []) (rest := []) ⟨hx, hb, hml, hown, hts⟩ (wX9_next l g ad S_5  S_7 h_8) (cwV 0 hts (lw_V q990 q992 qs22 q70 q993) rfl rfl rfl (by decide +kernel) ⟨Nat.le_of_ble_eq_true rfl, Nat.le_of_ble_eq_true rfl⟩) (sm_pe hE hP hD (va_recv hK hP (ci := 9) (q0 := 0) rfl rfl)) rfl rfl hl.1 rfl (lv_room (Nat.le_of_ble_eq_true rfl)) dX9_must_28 ⟨Nat.le_of_ble_eq_true rfl, Nat.le_of_ble_eq_true rfl⟩) hS (fun _ _ h => h) (fun _ h => h) (fun u t H locs ht hvm er_9 hB hz hk hS => ?_)
    obtain ⟨hP, hD⟩ := hB
    rw [ht] at hP
    have hf := Option.some.inj hf
    rw [← hQ]
    exact W.vret hx hb hr (fun t ht hW => ⟨⟨(), rfl, trivial, by rw [ht, ← hf]; exact hP, by rw [← hf]; exact hD⟩, hS.F ht⟩) hS.2.2 dX9_must_31
abbrev rX9_nunRate : Room := { frames := 2, cells := 0, slots := 0, locals := 43 }
set_option maxHeartbeats 4000000 in
theorem wX9_nunRate (l : Launch) (g : GG) (ad : Nat → Nat) (S : MS) (a1 : Int32) (Sf : MS) (rf : Int32) (hf : fX9_nunRate S a1 = some (Sf, rf)) : Met l yX9_nunRate (ws_ yX9_nunRate cX9_nunRate 2 (some .int)) rX9_nunRate (va_Pc [.ref (ad 0), .int a1] (fun U => PP g (WM g ad S) U.heap ∧ EV g U ∧ va_D (AM ad) (WM g ad S))) (va_Qi (fun y (_ : Unit) => y = rf) (fun _ t => PP g (WM g ad Sf) t.heap ∧ va_D (AM ad) (WM g ad Sf)) (AM ad)) 0 0 (AM ad) := by
  refine sm_st (by decide) ?_
  intro p e s m args below meth c hx hb hr hlocks hml hown hnm hts hv
  obtain ⟨hargs, hP, hE, hD⟩ := hv
  obtain ⟨hK, hN⟩ := id hE
  have hS : va_S (AM ad) s.heap s.heap [] := va_S.rf
  have hown : s.vm.findClass RX9 = some m.cls := hown
  refine sm_en _ (Nat.le_of_ble_eq_true rfl) hargs (fun ls hl => ?_)
  have hl : lv_has ls 2 [(0, .ref (ad 0)), (1, .int a1)] := hl
  generalize hQ : MQ below _ args s _ _ _ = Q
  unfold fX9_nunRate at hf
  refine lv_aload_n hx hb dX9_nunRate_0 rfl (lv_at hl 0 rfl) ?_
  refine lv_dup hx hb dX9_nunRate_1 rfl ?_
  refine va_get (D := (g.1, g.2.1)) (ci := 9) (v := .long S.2.2.1) (C := RX9) (T := TX9) (N := 39) hx hb hts in_X9 hown hK hP 0 rfl rfl 16 (by decide) (hts _ q872) (fun _ h9 => h9) rfl dX9_nunRate_2 ?_
  refine lv_ldc2 (v := 10) hx hb hown (hts _ q1142) dX9_nunRate_5 ?_
  refine lv_ladd hx hb dX9_nunRate_8 ?_
  refine va_put (D := (g.1, g.2.1)) (ci := 9) (v := .long (S.2.2.1 + 10)) (ty := .long) (C := RX9) (T := TX9) (N := 39) hx hb hts in_X9 tyX9 tyX9_ok nmX9 hown hK hP hD hS 0 rfl rfl 16 (by decide) (hts _ q872) (fun _ h9 => h9) rfl (by decide +kernel) rfl rfl (Nat.le_of_ble_eq_true rfl) dX9_nunRate_9 (fun H locs hP hD hS => ?_)
  obtain ⟨S_1, eS_1, hf⟩ := sm_lt_e hf
  have hP : PP g (WM g ad S_1) H := by rw [eS_1]; exact pmf16 hP
  have hD : va_D (AM ad) (WM g ad S_1) := by rw [eS_1]; exact dmf16 hD
  refine lv_aload_n hx hb dX9_nunRate_12 rfl (lv_at hl 0 rfl) ?_
  refine lv_iload_n hx hb dX9_nunRate_13 rfl (lv_at hl 1 rfl) ?_
  obtain ⟨S_2, r_4, h_3, hf⟩ := sm_b2_e hf
  refine va_calli (va_runV (As := [.int a1]) (rest := []) ⟨hx, hb, hml, hown, hts⟩ (wX9_clerkRate l g ad S_1 a1 S_2 r_4 h_3) (cwV 1 hts (lw_V q1241 q1243 qs56 q70 q1244) rfl rfl rfl (by decide +kernel) ⟨Nat.le_of_ble_eq_true rfl, Nat.le_of_ble_eq_true rfl⟩) (sm_pe hE hP hD (va_recv hK hP (ci := 9) (q0 := 0) rfl rfl)) rfl rfl hl.1 rfl (lv_room (Nat.le_of_ble_eq_true rfl)) dX9_nunRate_14 ⟨Nat.le_of_ble_eq_true rfl, Nat.le_of_ble_eq_true rfl⟩) hS (fun _ _ h => h) (fun _ h => h) (fun r_6 u t H locs ht hvm er_5 hB hz hk hS => ?_)
  have er_5 := er_5.symm
  subst er_5
  obtain ⟨hP, hD⟩ := hB
  rw [ht] at hP
  refine lv_aload_n hx hb dX9_nunRate_17 rfl (lv_at hl 0 rfl) ?_
  refine va_get (D := (g.1, g.2.1)) (ci := 9) (v := .ref (ad 6)) (C := RX9) (T := TX9) (N := 39) hx hb hts in_X9 hown hK hP 0 rfl rfl 6 (by decide) (hts _ q862) (fun _ h9 => h9) rfl dX9_nunRate_18 ?_
  refine lv_iconst (v := 3) hx hb dX9_nunRate_21 (by decide) ?_
  refine lv_iload_n hx hb dX9_nunRate_22 rfl (lv_at hl 1 rfl) ?_
  refine lv_imul hx hb dX9_nunRate_23 ?_
  refine lv_iconst (v := 1) hx hb dX9_nunRate_24 (by decide) ?_
  refine lv_iadd hx hb dX9_nunRate_25 ?_
  obtain ⟨hg, hf⟩ := sm_gd_e hf
  refine va_iald hx hb hK hP 2 0 rfl rfl (sm_in hg) dX9_nunRate_26 ?_
  refine lv_iadd hx hb dX9_nunRate_27 ?_
  have hf := Option.some.inj hf
  rw [← hQ]
  have hf := Prod.mk.inj hf
  exact W.iret (v := r_4 + (S_2.2.1 6 ((3 * a1) + 1).toNatClampNeg)) hx hb hr (fun t ht hW => ⟨⟨_, (), rfl, hf.2, by rw [ht, ← hf.1]; exact hP, by rw [← hf.1]; exact hD⟩, hS.F ht⟩) hS.2.2 dX9_nunRate_28
abbrev rX9_power : Room := { frames := 0, cells := 0, slots := 0, locals := 0 }
set_option maxHeartbeats 4000000 in
theorem wX9_power (l : Launch) (g : GG) (ad : Nat → Nat) (S : MS) (a1 : Int32) (a2 : Int32) (rf : Int32) (hf : fX9_power S a1 a2 = some rf) : Met l yX9_power (ws_ yX9_power cX9_power 5 (some .int)) rX9_power (va_Pc [.ref (ad 0), .int a1, .int a2] (fun U => PP g (WM g ad S) U.heap ∧ EV g U)) (vp_Si (fun y => y = rf)) 0 0 (fun _ => False) := by
  refine sm_st (by decide) ?_
  intro p e s m args below meth c hx hb hr hlocks hml hown hnm hts hv
  obtain ⟨hargs, hP, hE⟩ := hv
  obtain ⟨hK, hN⟩ := id hE
  have hown : s.vm.findClass RX9 = some m.cls := hown
  refine sm_en _ (Nat.le_of_ble_eq_true rfl) hargs (fun ls hl => ?_)
  have hl : lv_has ls 5 [(0, .ref (ad 0)), (1, .int a1), (2, .int a2)] := hl
  generalize hQ : MQ below _ args s _ _ _ = Q
  unfold fX9_power at hf
  refine lv_iconst (v := 1) hx hb dX9_power_0 (by decide) ?_
  refine lv_istore_n (lv' := [(3, .int 1), (0, .ref (ad 0)), (1, .int a1), (2, .int a2)]) hx hb dX9_power_1 rfl hl (by decide) rfl (fun ls hl => ?_)
  refine lv_iconst (v := 0) hx hb dX9_power_2 (by decide) ?_
  refine lv_istore (lv' := [(4, .int 0), (3, .int 1), (0, .ref (ad 0)), (1, .int a1), (2, .int a2)]) hx hb dX9_power_3 hl (by decide) rfl (fun ls hl => ?_)
  have L_8 : ∀ (n : Nat) (x_1 : Int32) (x_2 : Int32) (o_9 : Int32) (o_10 : Int32) (ls : Array Slot), sm_lp (fun q => fX9_power_5 a1 a2 q.1 q.2) n (x_1, x_2) = some (o_9, o_10) → lv_has ls 5 [(0, .ref (ad 0)), (1, .int a1), (2, .int a2), (4, .int x_1), (3, .int x_2)] → (∀ (ls : Array Slot), lv_has ls 5 [(0, .ref (ad 0)), (1, .int a1), (2, .int a2), (4, .int o_9), (3, .int o_10)] → W p l e rX9_power s m args below meth c s.heap [] 0 0 Q (F0 m 21 ls [])) → W p l e rX9_power s m args below meth c s.heap [] 0 0 Q (F0 m 5 ls []) := by
    intro n
    induction n with
    | zero =>
      intro _ _ _ _ _ hf
      cases hf
    | succ n ih_3 =>
      intro x_1 x_2 o_9 o_10 ls hf hl kx_4
      obtain ⟨q, hf, hc_7⟩ := sm_bnd hf
      have hf : fX9_power_5 a1 a2 x_1 x_2 = some q := hf
      unfold fX9_power_5 at hf
      refine lv_iload hx hb dX9_power_5 (lv_at hl 3 rfl) ?_
      refine lv_iload_n hx hb dX9_power_7 rfl (lv_at hl 2 rfl) ?_
      refine lv_icmp_ge (tgt := 21) hx hb dX9_power_8 (by decide) (fun c_11 => ?_) (fun c_11 => ?_)
      · have hf := (if_pos c_11).symm.trans hf
        cases hf
        have hc_7 : some (x_1, x_2) = some (o_9, o_10) := hc_7
        cases hc_7
        exact kx_4 _ (lv_sub hl [0, 1, 2, 3, 4] rfl)
      · have hf := (if_neg c_11).symm.trans hf
        refine lv_iload_n hx hb dX9_power_11 rfl (lv_at hl 4 rfl) ?_
        refine lv_iload_n hx hb dX9_power_12 rfl (lv_at hl 1 rfl) ?_
        refine lv_imul hx hb dX9_power_13 ?_
        refine lv_istore_n (lv' := [(3, .int (x_2 * a1)), (0, .ref (ad 0)), (1, .int a1), (2, .int a2), (4, .int x_1)]) hx hb dX9_power_14 rfl hl (by decide) rfl (fun ls hl => ?_)
        refine lv_iinc (v := x_1 + 1) (lv' := [(4, .int (x_1 + 1)), (3, .int (x_2 * a1)), (0, .ref (ad 0)), (1, .int a1), (2, .int a2)]) hx hb dX9_power_15 hl (k := 4) rfl rfl (by decide) rfl (fun ls hl => ?_)
        refine lv_goto (tgt := 5) hx hb dX9_power_18 (by decide) ?_
        cases hf
        exact ih_3 _ _ _ _ _ hc_7 (lv_sub hl [2, 3, 4, 0, 1] rfl) kx_4
  obtain ⟨x_13, x_14, ho, hf⟩ := sm_b2_e hf
  refine L_8 FU 0 1 x_13 x_14 ls ho (lv_sub hl [2, 3, 4, 0, 1] rfl) ?_
  intro ls hl
  refine lv_iload_n hx hb dX9_power_21 rfl (lv_at hl 4 rfl) ?_
  have hf := Option.some.inj hf
  rw [← hQ]
  exact W.iret (v := x_14) hx hb hr (fun t ht hW => ⟨_, rfl, hf, ht⟩) (fun _ h => by cases h) dX9_power_22
abbrev rX9_rate : Room := { frames := 3, cells := 0, slots := 0, locals := 64 }
set_option maxHeartbeats 4000000 in
theorem wX9_rate (l : Launch) (g : GG) (ad : Nat → Nat) (S : MS) (a1 : Int32) (a2 : Int32) (Sf : MS) (rf : Int32) (hf : fX9_rate S a1 a2 = some (Sf, rf)) : Met l yX9_rate (ws_ yX9_rate cX9_rate 3 (some .int)) rX9_rate (va_Pc [.ref (ad 0), .int a1, .int a2] (fun U => PP g (WM g ad S) U.heap ∧ EV g U ∧ va_D (AM ad) (WM g ad S))) (va_Qi (fun y (_ : Unit) => y = rf) (fun _ t => PP g (WM g ad Sf) t.heap ∧ va_D (AM ad) (WM g ad Sf)) (AM ad)) 0 0 (AM ad) := by
  refine sm_st (by decide) ?_
  intro p e s m args below meth c hx hb hr hlocks hml hown hnm hts hv
  obtain ⟨hargs, hP, hE, hD⟩ := hv
  obtain ⟨hK, hN⟩ := id hE
  have hS : va_S (AM ad) s.heap s.heap [] := va_S.rf
  have hown : s.vm.findClass RX9 = some m.cls := hown
  refine sm_en _ (Nat.le_of_ble_eq_true rfl) hargs (fun ls hl => ?_)
  have hl : lv_has ls 3 [(0, .ref (ad 0)), (1, .int a1), (2, .int a2)] := hl
  generalize hQ : MQ below _ args s _ _ _ = Q
  unfold fX9_rate at hf
  refine lv_iload_n hx hb dX9_rate_0 rfl (lv_at hl 1 rfl) ?_
  refine lv_iconst (v := 0) hx hb dX9_rate_1 (by decide) ?_
  refine lv_iconst (v := 5) hx hb dX9_rate_2 (by decide) ?_
  refine vp_callSi (W.runS (As := [.int a1, .int 0, .int 5]) (rest := []) ⟨hx, hb, hml, hown, hts⟩ (wX9_in l a1 0 5 (fX9_in a1 0 5) rfl) (va_cwS 3 hts (lw_S q979 q980 q70 q981) rfl rfl rfl (by decide +kernel) ⟨Nat.le_of_ble_eq_true rfl, Nat.le_of_ble_eq_true rfl⟩) (sm_ps) rfl rfl hl.1 rfl (lv_room (Nat.le_of_ble_eq_true rfl)) dX9_rate_3 ⟨Nat.le_of_ble_eq_true rfl, Nat.le_of_ble_eq_true rfl⟩) (fun r_2 er_1 => ?_)
  have er_1 := er_1.symm
  subst er_1
  refine lv_if_eq (tgt := 17) hx hb dX9_rate_6 (by decide) (fun c_3 => ?_) (fun c_3 => ?_)
  · have hf := (if_pos c_3).symm.trans hf
    refine lv_ldcw (v := (-1000000)) hx hb hown (hts _ q1240) dX9_rate_17 ?_
    have hf := Option.some.inj hf
    rw [← hQ]
    have hf := Prod.mk.inj hf
    exact W.iret (v := (-1000000)) hx hb hr (fun t ht hW => ⟨⟨_, (), rfl, hf.2, by rw [ht, ← hf.1]; exact hP, by rw [← hf.1]; exact hD⟩, hS.F ht⟩) hS.2.2 dX9_rate_20
  · have hf := (if_neg c_3).symm.trans hf
    refine lv_aload_n hx hb dX9_rate_9 rfl (lv_at hl 0 rfl) ?_
    refine lv_iload_n hx hb dX9_rate_10 rfl (lv_at hl 2 rfl) ?_
    refine vp_callSi (W.runV (As := [.int a2]) (rest := []) ⟨hx, hb, hml, hown, hts⟩ (wX9_isClerk l g ad S a2 (fX9_isClerk S a2) rfl) (cwV 1 hts (lw_V q1037 q1039 qs31 q70 q1040) rfl rfl rfl (by decide +kernel) ⟨Nat.le_of_ble_eq_true rfl, Nat.le_of_ble_eq_true rfl⟩) (sm_pv hE hP (va_recv hK hP (ci := 9) (q0 := 0) rfl rfl)) rfl rfl hl.1 rfl (lv_room (Nat.le_of_ble_eq_true rfl)) dX9_rate_11 ⟨Nat.le_of_ble_eq_true rfl, Nat.le_of_ble_eq_true rfl⟩) (fun r_5 er_4 => ?_)
    have er_4 := er_4.symm
    subst er_4
    refine lv_if_ne (tgt := 21) hx hb dX9_rate_14 (by decide) (fun c_6 => ?_) (fun c_6 => ?_)
    · have hf := (if_neg c_6).symm.trans hf
      refine lv_iload_n hx hb dX9_rate_21 rfl (lv_at hl 1 rfl) ?_
      by_cases c_7_0 : a1 = 0
      · have hf := (if_pos c_7_0).symm.trans hf
        refine lv_tableIn (tgt := 56) hx hb dX9_rate_22 (by rw [c_7_0]; decide) (by rw [c_7_0]; decide) (by rw [c_7_0]; rfl) (by decide) ?_
        refine lv_aload_n hx hb dX9_rate_56 rfl (lv_at hl 0 rfl) ?_
        refine lv_iload_n hx hb dX9_rate_57 rfl (lv_at hl 2 rfl) ?_
        obtain ⟨S_8, r_10, h_9, hf⟩ := sm_b2_e hf
        refine va_calli (va_runV (As := [.int a2]) (rest := []) ⟨hx, hb, hml, hown, hts⟩ (wX9_clerkRate l g ad S a2 S_8 r_10 h_9) (cwV 1 hts (lw_V q1241 q1243 qs56 q70 q1244) rfl rfl rfl (by decide +kernel) ⟨Nat.le_of_ble_eq_true rfl, Nat.le_of_ble_eq_true rfl⟩) (sm_pe hE hP hD (va_recv hK hP (ci := 9) (q0 := 0) rfl rfl)) rfl rfl hl.1 rfl (lv_room (Nat.le_of_ble_eq_true rfl)) dX9_rate_58 ⟨Nat.le_of_ble_eq_true rfl, Nat.le_of_ble_eq_true rfl⟩) hS (fun _ _ h => h) (fun _ h => h) (fun r_12 u t H locs ht hvm er_11 hB hz hk hS => ?_)
        have er_11 := er_11.symm
        subst er_11
        obtain ⟨hP, hD⟩ := hB
        rw [ht] at hP
        have hf := Option.some.inj hf
        rw [← hQ]
        have hf := Prod.mk.inj hf
        exact W.iret (v := r_10) hx hb hr (fun t ht hW => ⟨⟨_, (), rfl, hf.2, by rw [ht, ← hf.1]; exact hP, by rw [← hf.1]; exact hD⟩, hS.F ht⟩) hS.2.2 dX9_rate_61
      have hf := (if_neg c_7_0).symm.trans hf
      by_cases c_7_1 : a1 = 1
      · have hf := (if_pos c_7_1).symm.trans hf
        refine lv_tableIn (tgt := 62) hx hb dX9_rate_22 (by rw [c_7_1]; decide) (by rw [c_7_1]; decide) (by rw [c_7_1]; rfl) (by decide) ?_
        refine lv_aload_n hx hb dX9_rate_62 rfl (lv_at hl 0 rfl) ?_
        refine lv_iload_n hx hb dX9_rate_63 rfl (lv_at hl 2 rfl) ?_
        obtain ⟨S_13, r_15, h_14, hf⟩ := sm_b2_e hf
        refine va_calli (va_runV (As := [.int a2]) (rest := []) ⟨hx, hb, hml, hown, hts⟩ (wX9_nunRate l g ad S a2 S_13 r_15 h_14) (cwV 1 hts (lw_V q1245 q1247 qs57 q70 q1248) rfl rfl rfl (by decide +kernel) ⟨Nat.le_of_ble_eq_true rfl, Nat.le_of_ble_eq_true rfl⟩) (sm_pe hE hP hD (va_recv hK hP (ci := 9) (q0 := 0) rfl rfl)) rfl rfl hl.1 rfl (lv_room (Nat.le_of_ble_eq_true rfl)) dX9_rate_64 ⟨Nat.le_of_ble_eq_true rfl, Nat.le_of_ble_eq_true rfl⟩) hS (fun _ _ h => h) (fun _ h => h) (fun r_17 u t H locs ht hvm er_16 hB hz hk hS => ?_)
        have er_16 := er_16.symm
        subst er_16
        obtain ⟨hP, hD⟩ := hB
        rw [ht] at hP
        have hf := Option.some.inj hf
        rw [← hQ]
        have hf := Prod.mk.inj hf
        exact W.iret (v := r_15) hx hb hr (fun t ht hW => ⟨⟨_, (), rfl, hf.2, by rw [ht, ← hf.1]; exact hP, by rw [← hf.1]; exact hD⟩, hS.F ht⟩) hS.2.2 dX9_rate_67
      have hf := (if_neg c_7_1).symm.trans hf
      by_cases c_7_2 : a1 = 2
      · have hf := (if_pos c_7_2).symm.trans hf
        refine lv_tableIn (tgt := 68) hx hb dX9_rate_22 (by rw [c_7_2]; decide) (by rw [c_7_2]; decide) (by rw [c_7_2]; rfl) (by decide) ?_
        refine lv_aload_n hx hb dX9_rate_68 rfl (lv_at hl 0 rfl) ?_
        refine lv_iload_n hx hb dX9_rate_69 rfl (lv_at hl 2 rfl) ?_
        obtain ⟨S_18, r_20, h_19, hf⟩ := sm_b2_e hf
        refine va_calli (va_runV (As := [.int a2]) (rest := []) ⟨hx, hb, hml, hown, hts⟩ (wX9_nephewRate l g ad S a2 S_18 r_20 h_19) (cwV 1 hts (lw_V q1249 q1251 qs58 q70 q1252) rfl rfl rfl (by decide +kernel) ⟨Nat.le_of_ble_eq_true rfl, Nat.le_of_ble_eq_true rfl⟩) (sm_pe hE hP hD (va_recv hK hP (ci := 9) (q0 := 0) rfl rfl)) rfl rfl hl.1 rfl (lv_room (Nat.le_of_ble_eq_true rfl)) dX9_rate_70 ⟨Nat.le_of_ble_eq_true rfl, Nat.le_of_ble_eq_true rfl⟩) hS (fun _ _ h => h) (fun _ h => h) (fun r_22 u t H locs ht hvm er_21 hB hz hk hS => ?_)
        have er_21 := er_21.symm
        subst er_21
        obtain ⟨hP, hD⟩ := hB
        rw [ht] at hP
        have hf := Option.some.inj hf
        rw [← hQ]
        have hf := Prod.mk.inj hf
        exact W.iret (v := r_20) hx hb hr (fun t ht hW => ⟨⟨_, (), rfl, hf.2, by rw [ht, ← hf.1]; exact hP, by rw [← hf.1]; exact hD⟩, hS.F ht⟩) hS.2.2 dX9_rate_73
      have hf := (if_neg c_7_2).symm.trans hf
      by_cases c_7_3 : a1 = 3
      · have hf := (if_pos c_7_3).symm.trans hf
        refine lv_tableIn (tgt := 74) hx hb dX9_rate_22 (by rw [c_7_3]; decide) (by rw [c_7_3]; decide) (by rw [c_7_3]; rfl) (by decide) ?_
        refine lv_aload_n hx hb dX9_rate_74 rfl (lv_at hl 0 rfl) ?_
        refine lv_dup hx hb dX9_rate_75 rfl ?_
        refine va_get (D := (g.1, g.2.1)) (ci := 9) (v := .long S.2.2.1) (C := RX9) (T := TX9) (N := 39) hx hb hts in_X9 hown hK hP 0 rfl rfl 16 (by decide) (hts _ q872) (fun _ h9 => h9) rfl dX9_rate_76 ?_
        refine lv_ldc2 (v := 1000) hx hb hown (hts _ q1254) dX9_rate_79 ?_
        refine lv_ladd hx hb dX9_rate_82 ?_
        refine va_put (D := (g.1, g.2.1)) (ci := 9) (v := .long (S.2.2.1 + 1000)) (ty := .long) (C := RX9) (T := TX9) (N := 39) hx hb hts in_X9 tyX9 tyX9_ok nmX9 hown hK hP hD hS 0 rfl rfl 16 (by decide) (hts _ q872) (fun _ h9 => h9) rfl (by decide +kernel) rfl rfl (Nat.le_of_ble_eq_true rfl) dX9_rate_83 (fun H locs hP hD hS => ?_)
        obtain ⟨S_23, eS_23, hf⟩ := sm_lt_e hf
        have hP : PP g (WM g ad S_23) H := by rw [eS_23]; exact pmf16 hP
        have hD : va_D (AM ad) (WM g ad S_23) := by rw [eS_23]; exact dmf16 hD
        refine lv_iconst (v := 2) hx hb dX9_rate_86 (by decide) ?_
        refine lv_aload_n hx hb dX9_rate_87 rfl (lv_at hl 0 rfl) ?_
        refine lv_iload_n hx hb dX9_rate_88 rfl (lv_at hl 2 rfl) ?_
        obtain ⟨S_24, r_26, h_25, hf⟩ := sm_b2_e hf
        refine va_calli (va_runV (As := [.int a2]) (rest := [.int 2]) ⟨hx, hb, hml, hown, hts⟩ (wX9_nunRate l g ad S_23 a2 S_24 r_26 h_25) (cwV 1 hts (lw_V q1245 q1247 qs57 q70 q1248) rfl rfl rfl (by decide +kernel) ⟨Nat.le_of_ble_eq_true rfl, Nat.le_of_ble_eq_true rfl⟩) (sm_pe hE hP hD (va_recv hK hP (ci := 9) (q0 := 0) rfl rfl)) rfl rfl hl.1 rfl (lv_room (Nat.le_of_ble_eq_true rfl)) dX9_rate_89 ⟨Nat.le_of_ble_eq_true rfl, Nat.le_of_ble_eq_true rfl⟩) hS (fun _ _ h => h) (fun _ h => h) (fun r_28 u t H locs ht hvm er_27 hB hz hk hS => ?_)
        have er_27 := er_27.symm
        subst er_27
        obtain ⟨hP, hD⟩ := hB
        rw [ht] at hP
        refine lv_imul hx hb dX9_rate_92 ?_
        have hf := Option.some.inj hf
        rw [← hQ]
        have hf := Prod.mk.inj hf
        exact W.iret (v := 2 * r_26) hx hb hr (fun t ht hW => ⟨⟨_, (), rfl, hf.2, by rw [ht, ← hf.1]; exact hP, by rw [← hf.1]; exact hD⟩, hS.F ht⟩) hS.2.2 dX9_rate_93
      have hf := (if_neg c_7_3).symm.trans hf
      by_cases c_7_4 : a1 = 4
      · have hf := (if_pos c_7_4).symm.trans hf
        refine lv_tableIn (tgt := 94) hx hb dX9_rate_22 (by rw [c_7_4]; decide) (by rw [c_7_4]; decide) (by rw [c_7_4]; rfl) (by decide) ?_
        refine lv_aload_n hx hb dX9_rate_94 rfl (lv_at hl 0 rfl) ?_
        refine lv_dup hx hb dX9_rate_95 rfl ?_
        refine va_get (D := (g.1, g.2.1)) (ci := 9) (v := .long S.2.2.1) (C := RX9) (T := TX9) (N := 39) hx hb hts in_X9 hown hK hP 0 rfl rfl 16 (by decide) (hts _ q872) (fun _ h9 => h9) rfl dX9_rate_96 ?_
        refine lv_ldc2 (v := 10000) hx hb hown (hts _ q1255) dX9_rate_99 ?_
        refine lv_ladd hx hb dX9_rate_102 ?_
        refine va_put (D := (g.1, g.2.1)) (ci := 9) (v := .long (S.2.2.1 + 10000)) (ty := .long) (C := RX9) (T := TX9) (N := 39) hx hb hts in_X9 tyX9 tyX9_ok nmX9 hown hK hP hD hS 0 rfl rfl 16 (by decide) (hts _ q872) (fun _ h9 => h9) rfl (by decide +kernel) rfl rfl (Nat.le_of_ble_eq_true rfl) dX9_rate_103 (fun H locs hP hD hS => ?_)
        obtain ⟨S_29, eS_29, hf⟩ := sm_lt_e hf
        have hP : PP g (WM g ad S_29) H := by rw [eS_29]; exact pmf16 hP
        have hD : va_D (AM ad) (WM g ad S_29) := by rw [eS_29]; exact dmf16 hD
        refine lv_aload_n hx hb dX9_rate_106 rfl (lv_at hl 0 rfl) ?_
        refine lv_iload_n hx hb dX9_rate_107 rfl (lv_at hl 2 rfl) ?_
        obtain ⟨S_30, r_32, h_31, hf⟩ := sm_b2_e hf
        refine va_calli (va_runV (As := [.int a2]) (rest := []) ⟨hx, hb, hml, hown, hts⟩ (wX9_nephewRate l g ad S_29 a2 S_30 r_32 h_31) (cwV 1 hts (lw_V q1249 q1251 qs58 q70 q1252) rfl rfl rfl (by decide +kernel) ⟨Nat.le_of_ble_eq_true rfl, Nat.le_of_ble_eq_true rfl⟩) (sm_pe hE hP hD (va_recv hK hP (ci := 9) (q0 := 0) rfl rfl)) rfl rfl hl.1 rfl (lv_room (Nat.le_of_ble_eq_true rfl)) dX9_rate_108 ⟨Nat.le_of_ble_eq_true rfl, Nat.le_of_ble_eq_true rfl⟩) hS (fun _ _ h => h) (fun _ h => h) (fun r_34 u t H locs ht hvm er_33 hB hz hk hS => ?_)
        have er_33 := er_33.symm
        subst er_33
        obtain ⟨hP, hD⟩ := hB
        rw [ht] at hP
        refine lv_iload_n hx hb dX9_rate_111 rfl (lv_at hl 2 rfl) ?_
        refine lv_iadd hx hb dX9_rate_112 ?_
        have hf := Option.some.inj hf
        rw [← hQ]
        have hf := Prod.mk.inj hf
        exact W.iret (v := r_32 + a2) hx hb hr (fun t ht hW => ⟨⟨_, (), rfl, hf.2, by rw [ht, ← hf.1]; exact hP, by rw [← hf.1]; exact hD⟩, hS.F ht⟩) hS.2.2 dX9_rate_113
      have hf := (if_neg c_7_4).symm.trans hf
      refine lv_tableOut (tgt := 114) hx hb dX9_rate_22 (sm_out5 c_7_0 c_7_1 c_7_2 c_7_3 c_7_4) (by decide) ?_
      refine lv_aload_n hx hb dX9_rate_114 rfl (lv_at hl 0 rfl) ?_
      refine lv_dup hx hb dX9_rate_115 rfl ?_
      refine va_get (D := (g.1, g.2.1)) (ci := 9) (v := .long S.2.2.1) (C := RX9) (T := TX9) (N := 39) hx hb hts in_X9 hown hK hP 0 rfl rfl 16 (by decide) (hts _ q872) (fun _ h9 => h9) rfl dX9_rate_116 ?_
      refine lv_ldc2 (v := 100000) hx hb hown (hts _ q1256) dX9_rate_119 ?_
      refine lv_ladd hx hb dX9_rate_122 ?_
      refine va_put (D := (g.1, g.2.1)) (ci := 9) (v := .long (S.2.2.1 + 100000)) (ty := .long) (C := RX9) (T := TX9) (N := 39) hx hb hts in_X9 tyX9 tyX9_ok nmX9 hown hK hP hD hS 0 rfl rfl 16 (by decide) (hts _ q872) (fun _ h9 => h9) rfl (by decide +kernel) rfl rfl (Nat.le_of_ble_eq_true rfl) dX9_rate_123 (fun H locs hP hD hS => ?_)
      obtain ⟨S_35, eS_35, hf⟩ := sm_lt_e hf
      have hP : PP g (WM g ad S_35) H := by rw [eS_35]; exact pmf16 hP
      have hD : va_D (AM ad) (WM g ad S_35) := by rw [eS_35]; exact dmf16 hD
      refine lv_aload_n hx hb dX9_rate_126 rfl (lv_at hl 0 rfl) ?_
      refine lv_iload_n hx hb dX9_rate_127 rfl (lv_at hl 2 rfl) ?_
      obtain ⟨S_36, r_38, h_37, hf⟩ := sm_b2_e hf
      refine va_calli (va_runV (As := [.int a2]) (rest := []) ⟨hx, hb, hml, hown, hts⟩ (wX9_clerkRate l g ad S_35 a2 S_36 r_38 h_37) (cwV 1 hts (lw_V q1241 q1243 qs56 q70 q1244) rfl rfl rfl (by decide +kernel) ⟨Nat.le_of_ble_eq_true rfl, Nat.le_of_ble_eq_true rfl⟩) (sm_pe hE hP hD (va_recv hK hP (ci := 9) (q0 := 0) rfl rfl)) rfl rfl hl.1 rfl (lv_room (Nat.le_of_ble_eq_true rfl)) dX9_rate_128 ⟨Nat.le_of_ble_eq_true rfl, Nat.le_of_ble_eq_true rfl⟩) hS (fun _ _ h => h) (fun _ h => h) (fun r_40 u t H locs ht hvm er_39 hB hz hk hS => ?_)
      have er_39 := er_39.symm
      subst er_39
      obtain ⟨hP, hD⟩ := hB
      rw [ht] at hP
      refine lv_aload_n hx hb dX9_rate_131 rfl (lv_at hl 0 rfl) ?_
      obtain ⟨r_41, h_42, hf⟩ := sm_b1_e hf
      refine vp_callSi (W.runV (As := []) (rest := [.int r_38]) ⟨hx, hb, hml, hown, hts⟩ (wX9_goneSet l g ad S_36  r_41 h_42) (cwV 0 hts (lw_V q1053 q1055 qs34 q70 q1056) rfl rfl rfl (by decide +kernel) ⟨Nat.le_of_ble_eq_true rfl, Nat.le_of_ble_eq_true rfl⟩) (sm_pv hE hP (va_recv hK hP (ci := 9) (q0 := 0) rfl rfl)) rfl rfl hl.1 rfl (lv_room (Nat.le_of_ble_eq_true rfl)) dX9_rate_132 ⟨Nat.le_of_ble_eq_true rfl, Nat.le_of_ble_eq_true rfl⟩) (fun r_44 er_43 => ?_)
      have er_43 := er_43.symm
      subst er_43
      obtain ⟨r_45, h_46, hf⟩ := sm_b1_e hf
      refine vp_callSi (W.runS (As := [.int r_41]) (rest := [.int r_38]) ⟨hx, hb, hml, hown, hts⟩ (wX9_bits l r_41 r_45 h_46) (va_cwS 1 hts (lw_S q1085 q1086 q70 q1087) rfl rfl rfl (by decide +kernel) ⟨Nat.le_of_ble_eq_true rfl, Nat.le_of_ble_eq_true rfl⟩) (sm_ps) rfl rfl hl.1 rfl (lv_room (Nat.le_of_ble_eq_true rfl)) dX9_rate_135 ⟨Nat.le_of_ble_eq_true rfl, Nat.le_of_ble_eq_true rfl⟩) (fun r_48 er_47 => ?_)
      have er_47 := er_47.symm
      subst er_47
      refine lv_iadd hx hb dX9_rate_138 ?_
      have hf := Option.some.inj hf
      rw [← hQ]
      have hf := Prod.mk.inj hf
      exact W.iret (v := r_38 + r_45) hx hb hr (fun t ht hW => ⟨⟨_, (), rfl, hf.2, by rw [ht, ← hf.1]; exact hP, by rw [← hf.1]; exact hD⟩, hS.F ht⟩) hS.2.2 dX9_rate_139
    · have hf := (if_pos c_6).symm.trans hf
      refine lv_ldcw (v := (-1000000)) hx hb hown (hts _ q1240) dX9_rate_17 ?_
      have hf := Option.some.inj hf
      rw [← hQ]
      have hf := Prod.mk.inj hf
      exact W.iret (v := (-1000000)) hx hb hr (fun t ht hW => ⟨⟨_, (), rfl, hf.2, by rw [ht, ← hf.1]; exact hP, by rw [← hf.1]; exact hD⟩, hS.F ht⟩) hS.2.2 dX9_rate_20
