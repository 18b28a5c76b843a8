/-! SmokedLetters, walked: printed by gen/xmain.py -/
set_option maxRecDepth 100000
abbrev rX0_nextOf : Room := { frames := 0, cells := 0, slots := 0, locals := 0 }
set_option maxHeartbeats 4000000 in
theorem wX0_nextOf (l : Launch) (g : GG) (ad : Nat → Nat) (S : XS) (a1 : Int32) (rf : Int32) (hf : fX0_nextOf S a1 = some rf) : Met l yX0_nextOf (ws_ yX0_nextOf cX0_nextOf 5 (some .int)) rX0_nextOf (va_Pc [.ref (ad 0), .int a1] (fun Ux => PP g (WX g ad S) Ux.heap ∧ EV g Ux)) (vp_Si (fun y => y = rf)) 0 0 (fun _ => False) := by
  refine sm_st (by decide) ?_
  intro p e s m args below meth c hx hb hr hlocks hml hown hnm hts hv
  obtain ⟨hargs, hP, hE⟩ := hv
  obtain ⟨hK, hN⟩ := id hE
  have hown : s.vm.findClass RX0 = some m.cls := hown
  refine sm_en _ (Nat.le_of_ble_eq_true rfl) hargs (fun ls hl => ?_)
  have hl : lv_has ls 5 [(0, .ref (ad 0)), (1, .int a1)] := hl
  generalize hQ : MQ below _ args s _ _ _ = Q
  unfold fX0_nextOf at hf
  refine lv_iconst (v := 1) hx hb dX0_nextOf_0 (by decide) ?_
  refine lv_istore_n (lv' := [(2, .int 1), (0, .ref (ad 0)), (1, .int a1)]) hx hb dX0_nextOf_1 rfl hl (by decide) rfl (fun ls hl => ?_)
  refine lv_iconst (v := 1) hx hb dX0_nextOf_2 (by decide) ?_
  refine lv_istore_n (lv' := [(3, .int 1), (2, .int 1), (0, .ref (ad 0)), (1, .int a1)]) hx hb dX0_nextOf_3 rfl hl (by decide) rfl (fun ls hl => ?_)
  have L_8 : ∀ (n : Nat) (x_1 : Int32) (x_2 : Int32) (o_9 : Int32) (o_10 : Int32) (ls : Array Slot), sm_lp (fun q => fX0_nextOf_4 S q.1 q.2) n (x_1, x_2) = some (o_9, o_10) → lv_has ls 5 [(0, .ref (ad 0)), (1, .int a1), (3, .int x_1), (2, .int x_2)] → (∀ (ls : Array Slot), lv_has ls 5 [(0, .ref (ad 0)), (1, .int a1), (3, .int o_9), (2, .int o_10)] → W p l e rX0_nextOf s m args below meth c s.heap [] 0 0 Q (F0 m 26 ls [])) → W p l e rX0_nextOf s m args below meth c s.heap [] 0 0 Q (F0 m 4 ls []) := by
    intro n
    induction n with
    | zero =>
      intro _ _ _ _ _ hf
      cases hf
    | succ n ih_3 =>
      intro x_1 x_2 o_9 o_10 ls hf hl kx_4
      obtain ⟨q, hf, hc_7⟩ := sm_bnd hf
      have hf : fX0_nextOf_4 S x_1 x_2 = some q := hf
      unfold fX0_nextOf_4 at hf
      refine lv_iload_n hx hb dX0_nextOf_4 rfl (lv_at hl 2 rfl) ?_
      refine lv_aload_n hx hb dX0_nextOf_5 rfl (lv_at hl 0 rfl) ?_
      refine va_get (D := (g.1, g.2.1)) (ci := 0) (v := .ref (ad 1)) (C := RX0) (T := TX0) (N := 20) hx hb hts in_X0 hown hK hP 0 rfl rfl 0 (by decide) (hts _ q269) (fun _ h9 => h9) rfl dX0_nextOf_6 ?_
      refine va_getN (D := (g.1, g.2.1)) (ci := 1) (v := .int (S.2.2.2.2.1.1 6)) (C := RX1) (T := TX1) (N := 9) hx hb hts in_X1 hown hK hP 1 rfl rfl 6 (by decide) (va_Nw.use rfl (hN _ q121 rfl)) (fun _ h9 => h9) rfl dX0_nextOf_9 ?_
      refine lv_icmp_ge (tgt := 26) hx hb dX0_nextOf_12 (by decide) (fun c_11 => ?_) (fun c_11 => ?_)
      · have hf := (if_pos c_11).symm.trans hf
        cases hf
        have hc_7 : some (x_1, x_2) = some (o_9, o_10) := hc_7
        cases hc_7
        exact kx_4 _ (lv_sub hl [0, 1, 2, 3] rfl)
      · have hf := (if_neg c_11).symm.trans hf
        refine lv_iload_n hx hb dX0_nextOf_15 rfl (lv_at hl 3 rfl) ?_
        refine lv_bipush (v := 10) hx hb dX0_nextOf_16 (by decide) ?_
        refine lv_imul hx hb dX0_nextOf_18 ?_
        refine lv_istore_n (lv' := [(2, .int (x_2 * 10)), (0, .ref (ad 0)), (1, .int a1), (3, .int x_1)]) hx hb dX0_nextOf_19 rfl hl (by decide) rfl (fun ls hl => ?_)
        refine lv_iinc (v := x_1 + 1) (lv' := [(3, .int (x_1 + 1)), (2, .int (x_2 * 10)), (0, .ref (ad 0)), (1, .int a1)]) hx hb dX0_nextOf_20 hl (k := 3) rfl rfl (by decide) rfl (fun ls hl => ?_)
        refine lv_goto (tgt := 4) hx hb dX0_nextOf_23 (by decide) ?_
        cases hf
        exact ih_3 _ _ _ _ _ hc_7 (lv_sub hl [2, 3, 0, 1] rfl) kx_4
  obtain ⟨x_13, x_14, ho, hf⟩ := sm_b2_e hf
  refine L_8 FU 1 1 x_13 x_14 ls ho (lv_sub hl [2, 3, 0, 1] rfl) ?_
  intro ls hl
  refine lv_iload_n hx hb dX0_nextOf_26 rfl (lv_at hl 1 rfl) ?_
  refine lv_istore_n (lv' := [(3, .int a1), (0, .ref (ad 0)), (1, .int a1), (2, .int x_14)]) hx hb dX0_nextOf_27 rfl hl (by decide) rfl (fun ls hl => ?_)
  have L_22 : ∀ (n : Nat) (x_15 : Int32) (x_16 : Int32) (o_20 : ((Int32 × Int32) ⊕ Int32)) (ls : Array Slot), sm_lp (fun q => fX0_nextOf_28 S q.1 q.2) n (x_15, x_16) = some o_20 → lv_has ls 5 [(0, .ref (ad 0)), (1, .int a1), (3, .int x_15), (2, .int x_16)] → (∀ (x_15 : Int32) (x_16 : Int32) (ls : Array Slot), o_20 = Sum.inl (x_15, x_16) → lv_has ls 5 [(0, .ref (ad 0)), (1, .int a1), (3, .int x_15), (2, .int x_16)] → W p l e rX0_nextOf s m args below meth c s.heap [] 0 0 Q (F0 m 75 ls [])) → (∀ rv : Int32, o_20 = Sum.inr rv → rv = rf) → W p l e rX0_nextOf s m args below meth c s.heap [] 0 0 Q (F0 m 28 ls []) := by
    intro n
    induction n with
    | zero =>
      intro _ _ _ _ hf
      cases hf
    | succ n ih_17 =>
      intro x_15 x_16 o_20 ls hf hl kx_18 kr_19
      obtain ⟨q, hf, hc_21⟩ := sm_bnd hf
      have hf : fX0_nextOf_28 S x_15 x_16 = some q := hf
      unfold fX0_nextOf_28 at hf
      refine lv_iload_n hx hb dX0_nextOf_28 rfl (lv_at hl 3 rfl) ?_
      refine lv_if_le (tgt := 75) hx hb dX0_nextOf_29 (by decide) (fun c_25 => ?_) (fun c_25 => ?_)
      · have hf := (if_pos c_25).symm.trans hf
        cases hf
        exact kx_18 _ _ _ (Option.some.inj hc_21).symm (lv_sub hl [0, 1, 2, 3] rfl)
      · have hf := (if_neg c_25).symm.trans hf
        refine lv_iload_n hx hb dX0_nextOf_32 rfl (lv_at hl 2 rfl) ?_
        refine lv_iload_n hx hb dX0_nextOf_33 rfl (lv_at hl 3 rfl) ?_
        obtain ⟨hg, hf⟩ := sm_gd_e hf
        refine lv_idiv hx hb dX0_nextOf_34 (sm_ne hg) ?_
        refine lv_bipush (v := 10) hx hb dX0_nextOf_35 (by decide) ?_
        refine lv_irem hx hb dX0_nextOf_37 (by decide) ?_
        refine lv_topi (fun x_26 ex_26 => ?_)
        have hf := sm_lt_v hf ex_26
        refine lv_istore (lv' := [(4, .int x_26), (0, .ref (ad 0)), (1, .int a1), (3, .int x_15), (2, .int x_16)]) hx hb dX0_nextOf_38 hl (by decide) rfl (fun ls hl => ?_)
        refine lv_iload hx hb dX0_nextOf_40 (lv_at hl 0 rfl) ?_
        refine lv_iconst (v := 1) hx hb dX0_nextOf_42 (by decide) ?_
        refine lv_iadd hx hb dX0_nextOf_43 ?_
        refine lv_aload_n hx hb dX0_nextOf_44 rfl (lv_at hl 1 rfl) ?_
        refine va_get (D := (g.1, g.2.1)) (ci := 0) (v := .ref (ad 1)) (C := RX0) (T := TX0) (N := 20) hx hb hts in_X0 hown hK hP 0 rfl rfl 0 (by decide) (hts _ q269) (fun _ h9 => h9) rfl dX0_nextOf_45 ?_
        refine va_getN (D := (g.1, g.2.1)) (ci := 1) (v := .ref (ad 2)) (C := RX1) (T := TX1) (N := 9) hx hb hts in_X1 hown hK hP 1 rfl rfl 0 (by decide) (va_Nw.use rfl (hN _ q101 rfl)) (fun _ h9 => h9) rfl dX0_nextOf_48 ?_
        refine lv_iconst (v := 1) hx hb dX0_nextOf_51 (by decide) ?_
        refine va_iald hx hb hK hP 2 0 rfl rfl (sm_in rfl) dX0_nextOf_52 ?_
        refine lv_icmp_ge (tgt := 60) hx hb dX0_nextOf_53 (by decide) (fun c_27 => ?_) (fun c_27 => ?_)
        · have hf := (if_pos c_27).symm.trans hf
          refine lv_iload_n hx hb dX0_nextOf_60 rfl (lv_at hl 3 rfl) ?_
          refine lv_iload hx hb dX0_nextOf_61 (lv_at hl 0 rfl) ?_
          refine lv_iload_n hx hb dX0_nextOf_63 rfl (lv_at hl 4 rfl) ?_
          refine lv_imul hx hb dX0_nextOf_64 ?_
          refine lv_isub hx hb dX0_nextOf_65 ?_
          refine lv_istore_n (lv' := [(3, .int (x_15 - (x_26 * x_16))), (4, .int x_26), (0, .ref (ad 0)), (1, .int a1), (2, .int x_16)]) hx hb dX0_nextOf_66 rfl hl (by decide) rfl (fun ls hl => ?_)
          refine lv_iload_n hx hb dX0_nextOf_67 rfl (lv_at hl 4 rfl) ?_
          refine lv_bipush (v := 10) hx hb dX0_nextOf_68 (by decide) ?_
          refine lv_idiv hx hb dX0_nextOf_70 (by decide) ?_
          refine lv_istore_n (lv' := [(2, .int (x_16 / 10)), (3, .int (x_15 - (x_26 * x_16))), (4, .int x_26), (0, .ref (ad 0)), (1, .int a1)]) hx hb dX0_nextOf_71 rfl hl (by decide) rfl (fun ls hl => ?_)
          refine lv_goto (tgt := 28) hx hb dX0_nextOf_72 (by decide) ?_
          cases hf
          exact ih_17 _ _ _ _ hc_21 (lv_sub hl [3, 4, 1, 0] rfl) kx_18 kr_19
        · have hf := (if_neg c_27).symm.trans hf
          refine lv_iload_n hx hb dX0_nextOf_56 rfl (lv_at hl 3 rfl) ?_
          refine lv_iload_n hx hb dX0_nextOf_57 rfl (lv_at hl 4 rfl) ?_
          refine lv_iadd hx hb dX0_nextOf_58 ?_
          cases hf
          have hf := kr_19 _ (Option.some.inj hc_21).symm
          rw [← hQ]
          exact W.iret (v := x_15 + x_16) hx hb hr (fun t ht hW => ⟨_, rfl, hf, ht⟩) (fun _ h => by cases h) dX0_nextOf_59
  obtain ⟨o_28, ho, hf⟩ := sm_r_e hf
  refine L_22 FU a1 x_14 o_28 ls ho (lv_sub hl [1, 2, 0, 3] rfl) ?_ ?_
  · intro x_29 x_30 ls eo hl
    subst eo
    dsimp only [Sum.elim_inl, sm_u2] at hf
    refine lv_bipush (v := (-9)) hx hb dX0_nextOf_75 (by decide) ?_
    have hf := Option.some.inj hf
    rw [← hQ]
    exact W.iret (v := (-9)) hx hb hr (fun t ht hW => ⟨_, rfl, hf, ht⟩) (fun _ h => by cases h) dX0_nextOf_77
  · intro rv_31 eo
    subst eo
    have hf : some rv_31 = _ := hf
    have hf := Option.some.inj hf
    exact hf
abbrev rX0_sailedBy : Room := { frames := 0, cells := 0, slots := 0, locals := 0 }
set_option maxHeartbeats 4000000 in
theorem wX0_sailedBy (l : Launch) (g : GG) (ad : Nat → Nat) (S : XS) (a1 : Int32) (rf : Int32) (hf : fX0_sailedBy S a1 = some rf) : Met l yX0_sailedBy (ws_ yX0_sailedBy cX0_sailedBy 4 (some .int)) rX0_sailedBy (va_Pc [.ref (ad 0), .int a1] (fun Ux => PP g (WX g ad S) Ux.heap ∧ EV g Ux)) (vp_Si (fun y => y = rf)) 0 0 (fun _ => False) := by
  refine sm_st (by decide) ?_
  intro p e s m args below meth c hx hb hr hlocks hml hown hnm hts hv
  obtain ⟨hargs, hP, hE⟩ := hv
  obtain ⟨hK, hN⟩ := id hE
  have hown : s.vm.findClass RX0 = some m.cls := hown
  refine sm_en _ (Nat.le_of_ble_eq_true rfl) hargs (fun ls hl => ?_)
  have hl : lv_has ls 4 [(0, .ref (ad 0)), (1, .int a1)] := hl
  generalize hQ : MQ below _ args s _ _ _ = Q
  unfold fX0_sailedBy at hf
  refine lv_iconst (v := 0) hx hb dX0_sailedBy_0 (by decide) ?_
  refine lv_istore_n (lv' := [(2, .int 0), (0, .ref (ad 0)), (1, .int a1)]) hx hb dX0_sailedBy_1 rfl hl (by decide) rfl (fun ls hl => ?_)
  refine lv_iconst (v := 0) hx hb dX0_sailedBy_2 (by decide) ?_
  refine lv_istore_n (lv' := [(3, .int 0), (2, .int 0), (0, .ref (ad 0)), (1, .int a1)]) hx hb dX0_sailedBy_3 rfl hl (by decide) rfl (fun ls hl => ?_)
  have L_8 : ∀ (n : Nat) (x_1 : Int32) (x_2 : Int32) (o_9 : Int32) (o_10 : Int32) (ls : Array Slot), sm_lp (fun q => fX0_sailedBy_4 S a1 q.1 q.2) n (x_1, x_2) = some (o_9, o_10) → lv_has ls 4 [(0, .ref (ad 0)), (1, .int a1), (3, .int x_1), (2, .int x_2)] → (∀ (ls : Array Slot), lv_has ls 4 [(0, .ref (ad 0)), (1, .int a1), (3, .int o_9), (2, .int o_10)] → W p l e rX0_sailedBy s m args below meth c s.heap [] 0 0 Q (F0 m 39 ls [])) → W p l e rX0_sailedBy s m args below meth c s.heap [] 0 0 Q (F0 m 4 ls []) := by
    intro n
    induction n with
    | zero =>
      intro _ _ _ _ _ hf
      cases hf
    | succ n ih_3 =>
      intro x_1 x_2 o_9 o_10 ls hf hl kx_4
      obtain ⟨q, hf, hc_7⟩ := sm_bnd hf
      have hf : fX0_sailedBy_4 S a1 x_1 x_2 = some q := hf
      unfold fX0_sailedBy_4 at hf
      refine lv_iload_n hx hb dX0_sailedBy_4 rfl (lv_at hl 2 rfl) ?_
      refine lv_aload_n hx hb dX0_sailedBy_5 rfl (lv_at hl 0 rfl) ?_
      refine va_get (D := (g.1, g.2.1)) (ci := 0) (v := .ref (ad 1)) (C := RX0) (T := TX0) (N := 20) hx hb hts in_X0 hown hK hP 0 rfl rfl 0 (by decide) (hts _ q269) (fun _ h9 => h9) rfl dX0_sailedBy_6 ?_
      refine va_getN (D := (g.1, g.2.1)) (ci := 1) (v := .int (S.2.2.2.2.1.1 6)) (C := RX1) (T := TX1) (N := 9) hx hb hts in_X1 hown hK hP 1 rfl rfl 6 (by decide) (va_Nw.use rfl (hN _ q121 rfl)) (fun _ h9 => h9) rfl dX0_sailedBy_9 ?_
      refine lv_icmp_ge (tgt := 39) hx hb dX0_sailedBy_12 (by decide) (fun c_11 => ?_) (fun c_11 => ?_)
      · have hf := (if_pos c_11).symm.trans hf
        cases hf
        have hc_7 : some (x_1, x_2) = some (o_9, o_10) := hc_7
        cases hc_7
        exact kx_4 _ (lv_sub hl [0, 1, 2, 3] rfl)
      · have hf := (if_neg c_11).symm.trans hf
        refine lv_iload_n hx hb dX0_sailedBy_15 rfl (lv_at hl 3 rfl) ?_
        refine lv_aload_n hx hb dX0_sailedBy_16 rfl (lv_at hl 0 rfl) ?_
        refine va_get (D := (g.1, g.2.1)) (ci := 0) (v := .ref (ad 10)) (C := RX0) (T := TX0) (N := 20) hx hb hts in_X0 hown hK hP 0 rfl rfl 9 (by decide) (hts _ q281) (fun _ h9 => h9) rfl dX0_sailedBy_17 ?_
        refine lv_iload_n hx hb dX0_sailedBy_20 rfl (lv_at hl 2 rfl) ?_
        obtain ⟨hg, hf⟩ := sm_gd_e hf
        refine va_iald hx hb hK hP 10 0 rfl rfl (sm_in hg) dX0_sailedBy_21 ?_
        refine lv_iload_n hx hb dX0_sailedBy_22 rfl (lv_at hl 1 rfl) ?_
        refine lv_icmp_gt (tgt := 30) hx hb dX0_sailedBy_23 (by decide) (fun c_12 => ?_) (fun c_12 => ?_)
        · have hf := (if_pos c_12).symm.trans hf
          refine lv_iconst (v := 0) hx hb dX0_sailedBy_30 (by decide) ?_
          refine lv_iadd hx hb dX0_sailedBy_31 ?_
          refine lv_istore_n (lv' := [(2, .int (x_2 + 0)), (0, .ref (ad 0)), (1, .int a1), (3, .int x_1)]) hx hb dX0_sailedBy_32 rfl hl (by decide) rfl (fun ls hl => ?_)
          refine lv_iinc (v := x_1 + 1) (lv' := [(3, .int (x_1 + 1)), (2, .int (x_2 + 0)), (0, .ref (ad 0)), (1, .int a1)]) hx hb dX0_sailedBy_33 hl (k := 3) rfl rfl (by decide) rfl (fun ls hl => ?_)
          refine lv_goto (tgt := 4) hx hb dX0_sailedBy_36 (by decide) ?_
          cases hf
          exact ih_3 _ _ _ _ _ hc_7 (lv_sub hl [2, 3, 0, 1] rfl) kx_4
        · have hf := (if_neg c_12).symm.trans hf
          refine lv_iconst (v := 1) hx hb dX0_sailedBy_26 (by decide) ?_
          refine lv_goto (tgt := 31) hx hb dX0_sailedBy_27 (by decide) ?_
          refine lv_iadd hx hb dX0_sailedBy_31 ?_
          refine lv_istore_n (lv' := [(2, .int (x_2 + 1)), (0, .ref (ad 0)), (1, .int a1), (3, .int x_1)]) hx hb dX0_sailedBy_32 rfl hl (by decide) rfl (fun ls hl => ?_)
          refine lv_iinc (v := x_1 + 1) (lv' := [(3, .int (x_1 + 1)), (2, .int (x_2 + 1)), (0, .ref (ad 0)), (1, .int a1)]) hx hb dX0_sailedBy_33 hl (k := 3) rfl rfl (by decide) rfl (fun ls hl => ?_)
          refine lv_goto (tgt := 4) hx hb dX0_sailedBy_36 (by decide) ?_
          cases hf
          exact ih_3 _ _ _ _ _ hc_7 (lv_sub hl [2, 3, 0, 1] rfl) kx_4
  obtain ⟨x_14, x_15, ho, hf⟩ := sm_b2_e hf
  refine L_8 FU 0 0 x_14 x_15 ls ho (lv_sub hl [2, 3, 0, 1] rfl) ?_
  intro ls hl
  refine lv_iload_n hx hb dX0_sailedBy_39 rfl (lv_at hl 3 rfl) ?_
  have hf := Option.some.inj hf
  rw [← hQ]
  exact W.iret (v := x_15) hx hb hr (fun t ht hW => ⟨_, rfl, hf, ht⟩) (fun _ h => by cases h) dX0_sailedBy_40
abbrev rX0_most : Room := { frames := 3, cells := 0, slots := 0, locals := 70 }
set_option maxHeartbeats 4000000 in
theorem wX0_most (l : Launch) (g : GG) (ad : Nat → Nat) (S : XS) (a1 : Int32) (a2 : Int32) (Sf : XS) (rf : Int32) (hf : fX0_most S a1 a2 = some (Sf, rf)) : Met l yX0_most (ws_ yX0_most cX0_most 7 (some .int)) rX0_most (va_Pc [.ref (ad 0), .int a1, .int a2] (fun Ux => PP g (WX g ad S) Ux.heap ∧ EV g Ux ∧ va_D (AX ad) (WX g ad S))) (va_Qi (fun y (_ : Unit) => y = rf) (fun _ t => PP g (WX g ad Sf) t.heap ∧ va_D (AX ad) (WX g ad Sf)) (AX ad)) 0 0 (AX ad) := by
  refine sm_st (by decide) ?_
  intro p e s m args below meth c hx hb hr hlocks hml hown hnm hts hv
  obtain ⟨hargs, hP, hE, hD⟩ := hv
  obtain ⟨hK, hN⟩ := id hE
  have hS : va_S (AX ad) s.heap s.heap [] := va_S.rf
  have hown : s.vm.findClass RX0 = some m.cls := hown
  refine sm_en _ (Nat.le_of_ble_eq_true rfl) hargs (fun ls hl => ?_)
  have hl : lv_has ls 7 [(0, .ref (ad 0)), (1, .int a1), (2, .int a2)] := hl
  generalize hQ : MQ below _ args s _ _ _ = Q
  unfold fX0_most at hf
  refine lv_iload_n hx hb dX0_most_0 rfl (lv_at hl 1 rfl) ?_
  refine lv_iconst (v := 0) hx hb dX0_most_1 (by decide) ?_
  refine lv_sipush (v := 200) hx hb dX0_most_2 (by decide) ?_
  refine vp_callSi (W.runS (As := [.int a1, .int 0, .int 200]) (rest := []) ⟨hx, hb, hml, hown, hts⟩ (wX0_in l a1 0 200 (fX0_in a1 0 200) rfl) (va_cwS 3 hts (lw_S q343 q344 q60 q345) rfl rfl rfl (by decide +kernel) ⟨Nat.le_of_ble_eq_true rfl, Nat.le_of_ble_eq_true rfl⟩) (sm_ps) rfl rfl hl.1 rfl (lv_room (Nat.le_of_ble_eq_true rfl)) dX0_most_5 ⟨Nat.le_of_ble_eq_true rfl, Nat.le_of_ble_eq_true rfl⟩) (fun r_2 er_1 => ?_)
  have er_1 := er_1.symm
  subst er_1
  refine lv_if_eq (tgt := 19) hx hb dX0_most_8 (by decide) (fun c_3 => ?_) (fun c_3 => ?_)
  · have hf := (if_pos c_3).symm.trans hf
    refine lv_iconst (v := (-1)) hx hb dX0_most_19 (by decide) ?_
    have hf := Option.some.inj hf
    rw [← hQ]
    have hf := Prod.mk.inj hf
    exact W.iret (v := (-1)) hx hb hr (fun t ht hW => ⟨⟨_, (), rfl, hf.2, by rw [ht, ← hf.1]; exact hP, by rw [← hf.1]; exact hD⟩, hS.F ht⟩) hS.2.2 dX0_most_20
  · have hf := (if_neg c_3).symm.trans hf
    refine lv_aload_n hx hb dX0_most_11 rfl (lv_at hl 0 rfl) ?_
    refine lv_iload_n hx hb dX0_most_12 rfl (lv_at hl 2 rfl) ?_
    refine vp_callSi (W.runV (As := [.int a2]) (rest := []) ⟨hx, hb, hml, hown, hts⟩ (wX0_isTravellerOrNone l g ad S a2 (fX0_isTravellerOrNone S a2) rfl) (cwV 1 hts (lw_V q667 q669 qs11 q60 q670) rfl rfl rfl (by decide +kernel) ⟨Nat.le_of_ble_eq_true rfl, Nat.le_of_ble_eq_true rfl⟩) (sm_pv hE hP (va_recv hK hP (ci := 0) (q0 := 0) rfl rfl)) rfl rfl hl.1 rfl (lv_room (Nat.le_of_ble_eq_true rfl)) dX0_most_13 ⟨Nat.le_of_ble_eq_true rfl, Nat.le_of_ble_eq_true rfl⟩) (fun r_5 er_4 => ?_)
    have er_4 := er_4.symm
    subst er_4
    refine lv_if_ne (tgt := 21) hx hb dX0_most_16 (by decide) (fun c_6 => ?_) (fun c_6 => ?_)
    · have hf := (if_neg c_6).symm.trans hf
      refine lv_iconst (v := 0) hx hb dX0_most_21 (by decide) ?_
      refine lv_istore_n (lv' := [(3, .int 0), (0, .ref (ad 0)), (1, .int a1), (2, .int a2)]) hx hb dX0_most_22 rfl hl (by decide) rfl (fun ls hl => ?_)
      refine lv_iconst (v := (-1)) hx hb dX0_most_23 (by decide) ?_
      refine lv_istore (lv' := [(4, .int (-1)), (3, .int 0), (0, .ref (ad 0)), (1, .int a1), (2, .int a2)]) hx hb dX0_most_24 hl (by decide) rfl (fun ls hl => ?_)
      refine lv_iconst (v := 0) hx hb dX0_most_26 (by decide) ?_
      refine lv_istore (lv' := [(5, .int 0), (4, .int (-1)), (3, .int 0), (0, .ref (ad 0)), (1, .int a1), (2, .int a2)]) hx hb dX0_most_27 hl (by decide) rfl (fun ls hl => ?_)
      have L_16 : ∀ (n : Nat) (x_7 : Int32) (x_8 : Int32) (x_9 : Int32) (S_10 : XS) (o_17 : Int32) (o_18 : Int32) (o_19 : Int32) (o_20 : XS) (H : Heap) (locs : List Loc) (ls : Array Slot), sm_lp (fun q => fX0_most_29 a1 q.1 q.2.1 q.2.2.1 q.2.2.2) n (x_7, x_8, x_9, S_10) = some (o_17, o_18, o_19, o_20) → PP g (WX g ad S_10) H → va_D (AX ad) (WX g ad S_10) → va_S (AX ad) s.heap H locs → lv_has ls 7 [(0, .ref (ad 0)), (1, .int a1), (2, .int a2), (5, .int x_7), (4, .int x_8), (3, .int x_9)] → (∀ (H : Heap) (locs : List Loc) (ls : Array Slot), PP g (WX g ad o_20) H → va_D (AX ad) (WX g ad o_20) → va_S (AX ad) s.heap H locs → lv_has ls 7 [(0, .ref (ad 0)), (1, .int a1), (2, .int a2), (5, .int o_17), (4, .int o_18), (3, .int o_19)] → W p l e rX0_most s m args below meth c H locs 0 0 Q (F0 m 83 ls [])) → W p l e rX0_most s m args below meth c H locs 0 0 Q (F0 m 29 ls []) := by
        intro n
        induction n with
        | zero =>
          intro _ _ _ _ _ _ _ _ _ _ _ hf
          cases hf
        | succ n ih_11 =>
          intro x_7 x_8 x_9 S_10 o_17 o_18 o_19 o_20 H locs ls hf hP hD hS hl kx_12
          obtain ⟨q, hf, hc_15⟩ := sm_bnd hf
          have hf : fX0_most_29 a1 x_7 x_8 x_9 S_10 = some q := hf
          unfold fX0_most_29 at hf
          refine lv_iload hx hb dX0_most_29 (lv_at hl 3 rfl) ?_
          refine lv_bipush (v := (-9)) hx hb dX0_most_31 (by decide) ?_
          refine lv_icmp_eq (tgt := 83) hx hb dX0_most_33 (by decide) (fun c_21 => ?_) (fun c_21 => ?_)
          · have hf := (if_pos c_21).symm.trans hf
            cases hf
            have hc_15 : some (x_7, x_8, x_9, S_10) = some (o_17, o_18, o_19, o_20) := hc_15
            cases hc_15
            exact kx_12 _ _ _ hP hD hS (lv_sub hl [0, 1, 2, 3, 4, 5] rfl)
          · have hf := (if_neg c_21).symm.trans hf
            refine lv_aload_n hx hb dX0_most_36 rfl (lv_at hl 0 rfl) ?_
            refine lv_iload hx hb dX0_most_37 (lv_at hl 3 rfl) ?_
            obtain ⟨S_22, h_23, hf⟩ := sm_b1_e hf
            refine va_callv (va_runV (As := [.int x_7]) (rest := []) ⟨hx, hb, hml, hown, hts⟩ (wX0_go l g ad S_10 x_7 S_22 h_23) (cwV 1 hts (lw_V q671 q673 qs12 q60 q674) rfl rfl rfl (by decide +kernel) ⟨Nat.le_of_ble_eq_true rfl, Nat.le_of_ble_eq_true rfl⟩) (sm_pe hE hP hD (va_recv hK hP (ci := 0) (q0 := 0) rfl rfl)) rfl rfl hl.1 rfl (lv_room (Nat.le_of_ble_eq_true rfl)) dX0_most_39 ⟨Nat.le_of_ble_eq_true rfl, Nat.le_of_ble_eq_true rfl⟩) hS (fun _ _ h => h) (fun _ h => h) (fun u t H locs ht hvm er_24 hB hz hk hS => ?_)
            obtain ⟨hP, hD⟩ := hB
            rw [ht] at hP
            refine lv_aload_n hx hb dX0_most_42 rfl (lv_at hl 0 rfl) ?_
            refine lv_iload_n hx hb dX0_most_43 rfl (lv_at hl 1 rfl) ?_
            obtain ⟨r_26, h_27, hf⟩ := sm_b1_e hf
            refine vp_callSi (W.runV (As := [.int a1]) (rest := []) ⟨hx, hb, hml, hown, hts⟩ (wX0_sailedBy l g ad S_22 a1 r_26 h_27) (cwV 1 hts (lw_V q678 q680 qs13 q60 q681) rfl rfl rfl (by decide +kernel) ⟨Nat.le_of_ble_eq_true rfl, Nat.le_of_ble_eq_true rfl⟩) (sm_pv hE hP (va_recv hK hP (ci := 0) (q0 := 0) rfl rfl)) rfl rfl hl.1 rfl (lv_room (Nat.le_of_ble_eq_true rfl)) dX0_most_44 ⟨Nat.le_of_ble_eq_true rfl, Nat.le_of_ble_eq_true rfl⟩) (fun r_29 er_28 => ?_)
            have er_28 := er_28.symm
            subst er_28
            refine lv_istore (lv' := [(6, .int r_26), (0, .ref (ad 0)), (1, .int a1), (2, .int a2), (5, .int x_7), (4, .int x_8), (3, .int x_9)]) hx hb dX0_most_47 hl (by decide) rfl (fun ls hl => ?_)
            refine lv_iload hx hb dX0_most_49 (lv_at hl 0 rfl) ?_
            refine lv_iload hx hb dX0_most_51 (lv_at hl 5 rfl) ?_
            obtain ⟨x_30, hf, hf0⟩ := sm_b1_e hf
            suffices hj_31 : ∀ (ls : Array Slot), lv_has ls 7 [(6, .int r_26), (0, .ref (ad 0)), (1, .int a1), (2, .int a2), (5, .int x_7), (4, .int x_8), (3, .int x_9)] → W p l e rX0_most s m args below meth c H locs 0 0 Q (F0 m 62 ls [.int x_30]) from by
              refine lv_icmp_le (tgt := 61) hx hb dX0_most_53 (by decide) (fun c_32 => ?_) (fun c_32 => ?_)
              · have hf := (if_pos c_32).symm.trans hf
                refine lv_iload_n hx hb dX0_most_61 rfl (lv_at hl 6 rfl) ?_
                cases hf
                exact hj_31 _ (lv_sub hl [0, 1, 2, 3, 4, 5, 6] rfl)
              · have hf := (if_neg c_32).symm.trans hf
                refine lv_iload hx hb dX0_most_56 (lv_at hl 4 rfl) ?_
                refine lv_goto (tgt := 62) hx hb dX0_most_58 (by decide) ?_
                cases hf
                exact hj_31 _ (lv_sub hl [0, 1, 2, 3, 4, 5, 6] rfl)
            intro ls hl
            have hf := hf0
            refine lv_istore_n (lv' := [(3, .int x_30), (6, .int r_26), (0, .ref (ad 0)), (1, .int a1), (2, .int a2), (5, .int x_7), (4, .int x_8)]) hx hb dX0_most_62 rfl hl (by decide) rfl (fun ls hl => ?_)
            refine lv_iload hx hb dX0_most_63 (lv_at hl 6 rfl) ?_
            refine lv_iload hx hb dX0_most_65 (lv_at hl 1 rfl) ?_
            refine va_mmax hx hb (hml.trans hl.1.symm) hown (hts _ q682) (hts _ q431) (hts _ q72) (hts _ q432) (Nat.le_of_ble_eq_true rfl) (Nat.le_of_ble_eq_true rfl) (Nat.le_of_ble_eq_true rfl) (Nat.le_of_ble_eq_true rfl) dX0_most_67 ?_
            refine lv_topi (fun x_33 ex_33 => ?_)
            have hf := sm_lt_v hf ex_33
            refine lv_istore (lv' := [(4, .int x_33), (3, .int x_30), (6, .int r_26), (0, .ref (ad 0)), (1, .int a1), (2, .int a2), (5, .int x_7)]) hx hb dX0_most_70 hl (by decide) rfl (fun ls hl => ?_)
            refine lv_aload_n hx hb dX0_most_72 rfl (lv_at hl 3 rfl) ?_
            refine lv_iload hx hb dX0_most_73 (lv_at hl 6 rfl) ?_
            obtain ⟨r_34, h_35, hf⟩ := sm_b1_e hf
            refine vp_callSi (W.runV (As := [.int x_7]) (rest := []) ⟨hx, hb, hml, hown, hts⟩ (wX0_nextOf l g ad S_22 x_7 r_34 h_35) (cwV 1 hts (lw_V q683 q685 qs14 q60 q686) rfl rfl rfl (by decide +kernel) ⟨Nat.le_of_ble_eq_true rfl, Nat.le_of_ble_eq_true rfl⟩) (sm_pv hE hP (va_recv hK hP (ci := 0) (q0 := 0) rfl rfl)) rfl rfl hl.1 rfl (lv_room (Nat.le_of_ble_eq_true rfl)) dX0_most_75 ⟨Nat.le_of_ble_eq_true rfl, Nat.le_of_ble_eq_true rfl⟩) (fun r_37 er_36 => ?_)
            have er_36 := er_36.symm
            subst er_36
            refine lv_istore (lv' := [(5, .int r_34), (4, .int x_33), (3, .int x_30), (6, .int r_26), (0, .ref (ad 0)), (1, .int a1), (2, .int a2)]) hx hb dX0_most_78 hl (by decide) rfl (fun ls hl => ?_)
            refine lv_goto (tgt := 29) hx hb dX0_most_80 (by decide) ?_
            cases hf
            exact ih_11 _ _ _ _ _ _ _ _ _ _ _ hc_15 hP hD hS (lv_sub hl [4, 5, 6, 0, 1, 2] rfl) kx_12
      obtain ⟨x_39, x_40, x_41, S_42, ho, hf⟩ := sm_b4_e hf
      refine L_16 FU 0 (-1) 0 S x_39 x_40 x_41 S_42 s.heap [] ls ho hP hD hS (lv_sub hl [3, 4, 5, 0, 1, 2] rfl) ?_
      intro H locs ls hP hD hS hl
      refine lv_iload_n hx hb dX0_most_83 rfl (lv_at hl 2 rfl) ?_
      refine lv_bipush (v := (-9)) hx hb dX0_most_84 (by decide) ?_
      refine lv_icmp_ne (tgt := 94) hx hb dX0_most_86 (by decide) (fun c_43 => ?_) (fun c_43 => ?_)
      · have hf := (if_neg c_43).symm.trans hf
        refine lv_iload_n hx hb dX0_most_94 rfl (lv_at hl 5 rfl) ?_
        refine lv_iload_n hx hb dX0_most_95 rfl (lv_at hl 2 rfl) ?_
        obtain ⟨r_44, h_45, hf⟩ := sm_b1_e hf
        refine vp_callSi (W.runS (As := [.int x_41, .int a2]) (rest := []) ⟨hx, hb, hml, hown, hts⟩ (wX0_rowIn l x_41 a2 r_44 h_45) (va_cwS 2 hts (lw_S q675 q676 q60 q677) rfl rfl rfl (by decide +kernel) ⟨Nat.le_of_ble_eq_true rfl, Nat.le_of_ble_eq_true rfl⟩) (sm_ps) rfl rfl hl.1 rfl (lv_room (Nat.le_of_ble_eq_true rfl)) dX0_most_96 ⟨Nat.le_of_ble_eq_true rfl, Nat.le_of_ble_eq_true rfl⟩) (fun r_47 er_46 => ?_)
        have er_46 := er_46.symm
        subst er_46
        have hf := Option.some.inj hf
        rw [← hQ]
        have hf := Prod.mk.inj hf
        exact W.iret (v := r_44) hx hb hr (fun t ht hW => ⟨⟨_, (), rfl, hf.2, by rw [ht, ← hf.1]; exact hP, by rw [← hf.1]; exact hD⟩, hS.F ht⟩) hS.2.2 dX0_most_99
      · have hf := (if_pos c_43).symm.trans hf
        refine lv_iload hx hb dX0_most_89 (lv_at hl 4 rfl) ?_
        refine lv_goto (tgt := 99) hx hb dX0_most_91 (by decide) ?_
        have hf := Option.some.inj hf
        rw [← hQ]
        have hf := Prod.mk.inj hf
        exact W.iret (v := x_40) hx hb hr (fun t ht hW => ⟨⟨_, (), rfl, hf.2, by rw [ht, ← hf.1]; exact hP, by rw [← hf.1]; exact hD⟩, hS.F ht⟩) hS.2.2 dX0_most_99
    · have hf := (if_pos c_6).symm.trans hf
      refine lv_iconst (v := (-1)) hx hb dX0_most_19 (by decide) ?_
      have hf := Option.some.inj hf
      rw [← hQ]
      have hf := Prod.mk.inj hf
      exact W.iret (v := (-1)) hx hb hr (fun t ht hW => ⟨⟨_, (), rfl, hf.2, by rw [ht, ← hf.1]; exact hP, by rw [← hf.1]; exact hD⟩, hS.F ht⟩) hS.2.2 dX0_most_20
abbrev rX0_soonest : Room := { frames := 3, cells := 0, slots := 0, locals := 70 }
set_option maxHeartbeats 4000000 in
theorem wX0_soonest (l : Launch) (g : GG) (ad : Nat → Nat) (S : XS) (a1 : Int32) (Sf : XS) (rf : Int32) (hf : fX0_soonest S a1 = some (Sf, rf)) : Met l yX0_soonest (ws_ yX0_soonest cX0_soonest 9 (some .int)) rX0_soonest (va_Pc [.ref (ad 0), .int a1] (fun Ux => PP g (WX g ad S) Ux.heap ∧ EV g Ux ∧ va_D (AX ad) (WX g ad S))) (va_Qi (fun y (_ : Unit) => y = rf) (fun _ t => PP g (WX g ad Sf) t.heap ∧ va_D (AX ad) (WX g ad Sf)) (AX ad)) 0 0 (AX ad) := by
  refine sm_st (by decide) ?_
  intro p e s m args below meth c hx hb hr hlocks hml hown hnm hts hv
  obtain ⟨hargs, hP, hE, hD⟩ := hv
  obtain ⟨hK, hN⟩ := id hE
  have hS : va_S (AX ad) s.heap s.heap [] := va_S.rf
  have hown : s.vm.findClass RX0 = some m.cls := hown
  refine sm_en _ (Nat.le_of_ble_eq_true rfl) hargs (fun ls hl => ?_)
  have hl : lv_has ls 9 [(0, .ref (ad 0)), (1, .int a1)] := hl
  generalize hQ : MQ below _ args s _ _ _ = Q
  unfold fX0_soonest at hf
  refine lv_aload_n hx hb dX0_soonest_0 rfl (lv_at hl 0 rfl) ?_
  refine lv_iload_n hx hb dX0_soonest_1 rfl (lv_at hl 1 rfl) ?_
  refine vp_callSi (W.runV (As := [.int a1]) (rest := []) ⟨hx, hb, hml, hown, hts⟩ (wX0_isTravellerOrNone l g ad S a1 (fX0_isTravellerOrNone S a1) rfl) (cwV 1 hts (lw_V q667 q669 qs11 q60 q670) rfl rfl rfl (by decide +kernel) ⟨Nat.le_of_ble_eq_true rfl, Nat.le_of_ble_eq_true rfl⟩) (sm_pv hE hP (va_recv hK hP (ci := 0) (q0 := 0) rfl rfl)) rfl rfl hl.1 rfl (lv_room (Nat.le_of_ble_eq_true rfl)) dX0_soonest_2 ⟨Nat.le_of_ble_eq_true rfl, Nat.le_of_ble_eq_true rfl⟩) (fun r_2 er_1 => ?_)
  have er_1 := er_1.symm
  subst er_1
  refine lv_if_ne (tgt := 10) hx hb dX0_soonest_5 (by decide) (fun c_3 => ?_) (fun c_3 => ?_)
  · have hf := (if_neg c_3).symm.trans hf
    refine lv_iconst (v := 0) hx hb dX0_soonest_10 (by decide) ?_
    refine lv_istore_n (lv' := [(2, .int 0), (0, .ref (ad 0)), (1, .int a1)]) hx hb dX0_soonest_11 rfl hl (by decide) rfl (fun ls hl => ?_)
    refine lv_ldc (v := 2147483647) hx hb hown (hts _ q691) dX0_soonest_12 ?_
    refine lv_istore_n (lv' := [(3, .int 2147483647), (2, .int 0), (0, .ref (ad 0)), (1, .int a1)]) hx hb dX0_soonest_14 rfl hl (by decide) rfl (fun ls hl => ?_)
    refine lv_iconst (v := 0) hx hb dX0_soonest_15 (by decide) ?_
    refine lv_istore (lv' := [(4, .int 0), (3, .int 2147483647), (2, .int 0), (0, .ref (ad 0)), (1, .int a1)]) hx hb dX0_soonest_16 hl (by decide) rfl (fun ls hl => ?_)
    refine lv_iconst (v := 0) hx hb dX0_soonest_18 (by decide) ?_
    refine lv_istore (lv' := [(5, .int 0), (4, .int 0), (3, .int 2147483647), (2, .int 0), (0, .ref (ad 0)), (1, .int a1)]) hx hb dX0_soonest_19 hl (by decide) rfl (fun ls hl => ?_)
    have L_14 : ∀ (n : Nat) (x_4 : Int32) (x_5 : Int32) (x_6 : Int32) (x_7 : Int32) (S_8 : XS) (o_15 : Int32) (o_16 : Int32) (o_17 : Int32) (o_18 : Int32) (o_19 : XS) (H : Heap) (locs : List Loc) (ls : Array Slot), sm_lp (fun q => fX0_soonest_21 q.1 q.2.1 q.2.2.1 q.2.2.2.1 q.2.2.2.2) n (x_4, x_5, x_6, x_7, S_8) = some (o_15, o_16, o_17, o_18, o_19) → PP g (WX g ad S_8) H → va_D (AX ad) (WX g ad S_8) → va_S (AX ad) s.heap H locs → lv_has ls 9 [(0, .ref (ad 0)), (1, .int a1), (5, .int x_4), (4, .int x_5), (3, .int x_6), (2, .int x_7)] → (∀ (H : Heap) (locs : List Loc) (ls : Array Slot), PP g (WX g ad o_19) H → va_D (AX ad) (WX g ad o_19) → va_S (AX ad) s.heap H locs → lv_has ls 9 [(0, .ref (ad 0)), (1, .int a1), (5, .int o_15), (4, .int o_16), (3, .int o_17), (2, .int o_18)] → W p l e rX0_soonest s m args below meth c H locs 0 0 Q (F0 m 127 ls [])) → W p l e rX0_soonest s m args below meth c H locs 0 0 Q (F0 m 21 ls []) := by
      intro n
      induction n with
      | zero =>
        intro _ _ _ _ _ _ _ _ _ _ _ _ _ hf
        cases hf
      | succ n ih_9 =>
        intro x_4 x_5 x_6 x_7 S_8 o_15 o_16 o_17 o_18 o_19 H locs ls hf hP hD hS hl kx_10
        obtain ⟨q, hf, hc_13⟩ := sm_bnd hf
        have hf : fX0_soonest_21 x_4 x_5 x_6 x_7 S_8 = some q := hf
        unfold fX0_soonest_21 at hf
        refine lv_iload hx hb dX0_soonest_21 (lv_at hl 2 rfl) ?_
        refine lv_bipush (v := (-9)) hx hb dX0_soonest_23 (by decide) ?_
        refine lv_icmp_eq (tgt := 127) hx hb dX0_soonest_25 (by decide) (fun c_20 => ?_) (fun c_20 => ?_)
        · have hf := (if_pos c_20).symm.trans hf
          cases hf
          have hc_13 : some (x_4, x_5, x_6, x_7, S_8) = some (o_15, o_16, o_17, o_18, o_19) := hc_13
          cases hc_13
          exact kx_10 _ _ _ hP hD hS (lv_sub hl [0, 1, 2, 3, 4, 5] rfl)
        · have hf := (if_neg c_20).symm.trans hf
          refine lv_aload_n hx hb dX0_soonest_28 rfl (lv_at hl 0 rfl) ?_
          refine lv_iload hx hb dX0_soonest_29 (lv_at hl 2 rfl) ?_
          obtain ⟨S_21, h_22, hf⟩ := sm_b1_e hf
          refine va_callv (va_runV (As := [.int x_4]) (rest := []) ⟨hx, hb, hml, hown, hts⟩ (wX0_go l g ad S_8 x_4 S_21 h_22) (cwV 1 hts (lw_V q671 q673 qs12 q60 q674) rfl rfl rfl (by decide +kernel) ⟨Nat.le_of_ble_eq_true rfl, Nat.le_of_ble_eq_true rfl⟩) (sm_pe hE hP hD (va_recv hK hP (ci := 0) (q0 := 0) rfl rfl)) rfl rfl hl.1 rfl (lv_room (Nat.le_of_ble_eq_true rfl)) dX0_soonest_31 ⟨Nat.le_of_ble_eq_true rfl, Nat.le_of_ble_eq_true rfl⟩) hS (fun _ _ h => h) (fun _ h => h) (fun u t H locs ht hvm er_23 hB hz hk hS => ?_)
          obtain ⟨hP, hD⟩ := hB
          rw [ht] at hP
          refine lv_iconst (v := 0) hx hb dX0_soonest_34 (by decide) ?_
          refine lv_istore (lv' := [(6, .int 0), (0, .ref (ad 0)), (1, .int a1), (5, .int x_4), (4, .int x_5), (3, .int x_6), (2, .int x_7)]) hx hb dX0_soonest_35 hl (by decide) rfl (fun ls hl => ?_)
          refine lv_iconst (v := 0) hx hb dX0_soonest_37 (by decide) ?_
          refine lv_istore (lv' := [(7, .int 0), (6, .int 0), (0, .ref (ad 0)), (1, .int a1), (5, .int x_4), (4, .int x_5), (3, .int x_6), (2, .int x_7)]) hx hb dX0_soonest_38 hl (by decide) rfl (fun ls hl => ?_)
          refine lv_iconst (v := 0) hx hb dX0_soonest_40 (by decide) ?_
          refine lv_istore (lv' := [(8, .int 0), (7, .int 0), (6, .int 0), (0, .ref (ad 0)), (1, .int a1), (5, .int x_4), (4, .int x_5), (3, .int x_6), (2, .int x_7)]) hx hb dX0_soonest_41 hl (by decide) rfl (fun ls hl => ?_)
          have L_33 : ∀ (n : Nat) (x_25 : Int32) (x_26 : Int32) (x_27 : Int32) (o_34 : Int32) (o_35 : Int32) (o_36 : Int32) (ls : Array Slot), sm_lp (fun q => fX0_soonest_43 S_21 q.1 q.2.1 q.2.2) n (x_25, x_26, x_27) = some (o_34, o_35, o_36) → lv_has ls 9 [(0, .ref (ad 0)), (1, .int a1), (5, .int x_4), (4, .int x_5), (3, .int x_6), (2, .int x_7), (8, .int x_25), (7, .int x_26), (6, .int x_27)] → (∀ (ls : Array Slot), lv_has ls 9 [(0, .ref (ad 0)), (1, .int a1), (5, .int x_4), (4, .int x_5), (3, .int x_6), (2, .int x_7), (8, .int o_34), (7, .int o_35), (6, .int o_36)] → W p l e rX0_soonest s m args below meth c H locs 0 0 Q (F0 m 87 ls [])) → W p l e rX0_soonest s m args below meth c H locs 0 0 Q (F0 m 43 ls []) := by
            intro n
            induction n with
            | zero =>
              intro _ _ _ _ _ _ _ hf
              cases hf
            | succ n ih_28 =>
              intro x_25 x_26 x_27 o_34 o_35 o_36 ls hf hl kx_29
              obtain ⟨q, hf, hc_32⟩ := sm_bnd hf
              have hf : fX0_soonest_43 S_21 x_25 x_26 x_27 = some q := hf
              unfold fX0_soonest_43 at hf
              refine lv_iload hx hb dX0_soonest_43 (lv_at hl 6 rfl) ?_
              refine lv_aload_n hx hb dX0_soonest_45 rfl (lv_at hl 0 rfl) ?_
              refine va_get (D := (g.1, g.2.1)) (ci := 0) (v := .ref (ad 1)) (C := RX0) (T := TX0) (N := 20) hx hb hts in_X0 hown hK hP 0 rfl rfl 0 (by decide) (hts _ q269) (fun _ h9 => h9) rfl dX0_soonest_46 ?_
              refine va_getN (D := (g.1, g.2.1)) (ci := 1) (v := .int (S_21.2.2.2.2.1.1 6)) (C := RX1) (T := TX1) (N := 9) hx hb hts in_X1 hown hK hP 1 rfl rfl 6 (by decide) (va_Nw.use rfl (hN _ q121 rfl)) (fun _ h9 => h9) rfl dX0_soonest_49 ?_
              refine lv_icmp_ge (tgt := 87) hx hb dX0_soonest_52 (by decide) (fun c_37 => ?_) (fun c_37 => ?_)
              · have hf := (if_pos c_37).symm.trans hf
                cases hf
                have hc_32 : some (x_25, x_26, x_27) = some (o_34, o_35, o_36) := hc_32
                cases hc_32
                exact kx_29 _ (lv_sub hl [0, 1, 2, 3, 4, 5, 6, 7, 8] rfl)
              · have hf := (if_neg c_37).symm.trans hf
                refine lv_iload hx hb dX0_soonest_55 (lv_at hl 8 rfl) ?_
                refine lv_aload_n hx hb dX0_soonest_57 rfl (lv_at hl 0 rfl) ?_
                refine va_get (D := (g.1, g.2.1)) (ci := 0) (v := .ref (ad 10)) (C := RX0) (T := TX0) (N := 20) hx hb hts in_X0 hown hK hP 0 rfl rfl 9 (by decide) (hts _ q281) (fun _ h9 => h9) rfl dX0_soonest_58 ?_
                refine lv_iload hx hb dX0_soonest_61 (lv_at hl 6 rfl) ?_
                obtain ⟨hg, hf⟩ := sm_gd_e hf
                refine va_iald hx hb hK hP 10 0 rfl rfl (sm_in hg) dX0_soonest_63 ?_
                refine va_mmax hx hb (hml.trans hl.1.symm) hown (hts _ q682) (hts _ q431) (hts _ q72) (hts _ q432) (Nat.le_of_ble_eq_true rfl) (Nat.le_of_ble_eq_true rfl) (Nat.le_of_ble_eq_true rfl) (Nat.le_of_ble_eq_true rfl) dX0_soonest_64 ?_
                refine lv_topi (fun x_38 ex_38 => ?_)
                have hf := sm_lt_v hf ex_38
                refine lv_istore (lv' := [(6, .int x_38), (0, .ref (ad 0)), (1, .int a1), (5, .int x_4), (4, .int x_5), (3, .int x_6), (2, .int x_7), (8, .int x_25), (7, .int x_26)]) hx hb dX0_soonest_67 hl (by decide) rfl (fun ls hl => ?_)
                refine lv_iload hx hb dX0_soonest_69 (lv_at hl 8 rfl) ?_
                refine lv_aload_n hx hb dX0_soonest_71 rfl (lv_at hl 1 rfl) ?_
                refine va_get (D := (g.1, g.2.1)) (ci := 0) (v := .ref (ad 10)) (C := RX0) (T := TX0) (N := 20) hx hb hts in_X0 hown hK hP 0 rfl rfl 9 (by decide) (hts _ q281) (fun _ h9 => h9) rfl dX0_soonest_72 ?_
                refine lv_iload hx hb dX0_soonest_75 (lv_at hl 7 rfl) ?_
                obtain ⟨hg, hf⟩ := sm_gd_e hf
                refine va_iald hx hb hK hP 10 0 rfl rfl (sm_in hg) dX0_soonest_77 ?_
                refine lv_iadd hx hb dX0_soonest_78 ?_
                refine lv_topi (fun x_39 ex_39 => ?_)
                have hf := sm_lt_v hf ex_39
                refine lv_istore (lv' := [(7, .int x_39), (6, .int x_38), (0, .ref (ad 0)), (1, .int a1), (5, .int x_4), (4, .int x_5), (3, .int x_6), (2, .int x_7), (8, .int x_25)]) hx hb dX0_soonest_79 hl (by decide) rfl (fun ls hl => ?_)
                refine lv_iinc (v := x_25 + 1) (lv' := [(8, .int (x_25 + 1)), (7, .int x_39), (6, .int x_38), (0, .ref (ad 0)), (1, .int a1), (5, .int x_4), (4, .int x_5), (3, .int x_6), (2, .int x_7)]) hx hb dX0_soonest_81 hl (k := 8) rfl rfl (by decide) rfl (fun ls hl => ?_)
                refine lv_goto (tgt := 43) hx hb dX0_soonest_84 (by decide) ?_
                cases hf
                exact ih_28 _ _ _ _ _ _ _ hc_32 (lv_sub hl [3, 4, 5, 6, 7, 8, 0, 1, 2] rfl) kx_29
          obtain ⟨x_41, x_42, x_43, ho, hf⟩ := sm_b3_e hf
          refine L_33 FU 0 0 0 x_41 x_42 x_43 ls ho (lv_sub hl [3, 4, 5, 6, 7, 8, 0, 1, 2] rfl) ?_
          intro ls hl
          refine lv_iload hx hb dX0_soonest_87 (lv_at hl 8 rfl) ?_
          refine lv_iload_n hx hb dX0_soonest_89 rfl (lv_at hl 4 rfl) ?_
          obtain ⟨x_44, x_45, x_46, hf, hf0⟩ := sm_b3_e hf
          suffices hj_47 : ∀ (ls : Array Slot), lv_has ls 9 [(0, .ref (ad 0)), (1, .int a1), (5, .int x_4), (8, .int x_41), (7, .int x_42), (6, .int x_43), (4, .int x_44), (3, .int x_45), (2, .int x_46)] → W p l e rX0_soonest s m args below meth c H locs 0 0 Q (F0 m 116 ls []) from by
            refine lv_icmp_lt (tgt := 106) hx hb dX0_soonest_90 (by decide) (fun c_48 => ?_) (fun c_48 => ?_)
            · have hf := (if_pos c_48).symm.trans hf
              refine lv_iload hx hb dX0_soonest_106 (lv_at hl 2 rfl) ?_
              refine lv_istore_n (lv' := [(2, .int x_4), (0, .ref (ad 0)), (1, .int a1), (5, .int x_4), (4, .int x_5), (3, .int x_6), (8, .int x_41), (7, .int x_42), (6, .int x_43)]) hx hb dX0_soonest_108 rfl hl (by decide) rfl (fun ls hl => ?_)
              refine lv_iload hx hb dX0_soonest_109 (lv_at hl 8 rfl) ?_
              refine lv_istore_n (lv' := [(3, .int x_43), (2, .int x_4), (0, .ref (ad 0)), (1, .int a1), (5, .int x_4), (4, .int x_5), (8, .int x_41), (7, .int x_42), (6, .int x_43)]) hx hb dX0_soonest_111 rfl hl (by decide) rfl (fun ls hl => ?_)
              refine lv_iload hx hb dX0_soonest_112 (lv_at hl 7 rfl) ?_
              refine lv_istore (lv' := [(4, .int x_42), (3, .int x_43), (2, .int x_4), (0, .ref (ad 0)), (1, .int a1), (5, .int x_4), (8, .int x_41), (7, .int x_42), (6, .int x_43)]) hx hb dX0_soonest_114 hl (by decide) rfl (fun ls hl => ?_)
              cases hf
              exact hj_47 _ (lv_sub hl [3, 4, 5, 6, 7, 8, 0, 1, 2] rfl)
            · have hf := (if_neg c_48).symm.trans hf
              refine lv_iload hx hb dX0_soonest_93 (lv_at hl 8 rfl) ?_
              refine lv_iload_n hx hb dX0_soonest_95 rfl (lv_at hl 4 rfl) ?_
              refine lv_icmp_ne (tgt := 116) hx hb dX0_soonest_96 (by decide) (fun c_49 => ?_) (fun c_49 => ?_)
              · have hf := (if_neg c_49).symm.trans hf
                cases hf
                exact hj_47 _ (lv_sub hl [0, 1, 2, 6, 7, 8, 3, 4, 5] rfl)
              · have hf := (if_pos c_49).symm.trans hf
                refine lv_iload hx hb dX0_soonest_99 (lv_at hl 7 rfl) ?_
                refine lv_iload hx hb dX0_soonest_101 (lv_at hl 3 rfl) ?_
                refine lv_icmp_ge (tgt := 116) hx hb dX0_soonest_103 (by decide) (fun c_50 => ?_) (fun c_50 => ?_)
                · have hf := (if_pos c_50).symm.trans hf
                  cases hf
                  exact hj_47 _ (lv_sub hl [0, 1, 2, 6, 7, 8, 3, 4, 5] rfl)
                · have hf := (if_neg c_50).symm.trans hf
                  refine lv_iload hx hb dX0_soonest_106 (lv_at hl 2 rfl) ?_
                  refine lv_istore_n (lv' := [(2, .int x_4), (0, .ref (ad 0)), (1, .int a1), (5, .int x_4), (4, .int x_5), (3, .int x_6), (8, .int x_41), (7, .int x_42), (6, .int x_43)]) hx hb dX0_soonest_108 rfl hl (by decide) rfl (fun ls hl => ?_)
                  refine lv_iload hx hb dX0_soonest_109 (lv_at hl 8 rfl) ?_
                  refine lv_istore_n (lv' := [(3, .int x_43), (2, .int x_4), (0, .ref (ad 0)), (1, .int a1), (5, .int x_4), (4, .int x_5), (8, .int x_41), (7, .int x_42), (6, .int x_43)]) hx hb dX0_soonest_111 rfl hl (by decide) rfl (fun ls hl => ?_)
                  refine lv_iload hx hb dX0_soonest_112 (lv_at hl 7 rfl) ?_
                  refine lv_istore (lv' := [(4, .int x_42), (3, .int x_43), (2, .int x_4), (0, .ref (ad 0)), (1, .int a1), (5, .int x_4), (8, .int x_41), (7, .int x_42), (6, .int x_43)]) hx hb dX0_soonest_114 hl (by decide) rfl (fun ls hl => ?_)
                  cases hf
                  exact hj_47 _ (lv_sub hl [3, 4, 5, 6, 7, 8, 0, 1, 2] rfl)
          intro ls hl
          have hf := hf0
          refine lv_aload_n hx hb dX0_soonest_116 rfl (lv_at hl 0 rfl) ?_
          refine lv_iload hx hb dX0_soonest_117 (lv_at hl 2 rfl) ?_
          obtain ⟨r_51, h_52, hf⟩ := sm_b1_e hf
          refine vp_callSi (W.runV (As := [.int x_4]) (rest := []) ⟨hx, hb, hml, hown, hts⟩ (wX0_nextOf l g ad S_21 x_4 r_51 h_52) (cwV 1 hts (lw_V q683 q685 qs14 q60 q686) rfl rfl rfl (by decide +kernel) ⟨Nat.le_of_ble_eq_true rfl, Nat.le_of_ble_eq_true rfl⟩) (sm_pv hE hP (va_recv hK hP (ci := 0) (q0 := 0) rfl rfl)) rfl rfl hl.1 rfl (lv_room (Nat.le_of_ble_eq_true rfl)) dX0_soonest_119 ⟨Nat.le_of_ble_eq_true rfl, Nat.le_of_ble_eq_true rfl⟩) (fun r_54 er_53 => ?_)
          have er_53 := er_53.symm
          subst er_53
          refine lv_istore (lv' := [(5, .int r_51), (0, .ref (ad 0)), (1, .int a1), (8, .int x_41), (7, .int x_42), (6, .int x_43), (4, .int x_44), (3, .int x_45), (2, .int x_46)]) hx hb dX0_soonest_122 hl (by decide) rfl (fun ls hl => ?_)
          refine lv_goto (tgt := 21) hx hb dX0_soonest_124 (by decide) ?_
          cases hf
          exact ih_9 _ _ _ _ _ _ _ _ _ _ _ _ _ hc_13 hP hD hS (lv_sub hl [1, 2, 0, 6, 7, 8] rfl) kx_10
    obtain ⟨x_56, x_57, x_58, x_59, S_60, ho, hf⟩ := sm_b5_e hf
    refine L_14 FU 0 0 2147483647 0 S x_56 x_57 x_58 x_59 S_60 s.heap [] ls ho hP hD hS (lv_sub hl [4, 5, 0, 1, 2, 3] rfl) ?_
    intro H locs ls hP hD hS hl
    refine lv_iload_n hx hb dX0_soonest_127 rfl (lv_at hl 1 rfl) ?_
    refine lv_bipush (v := (-9)) hx hb dX0_soonest_128 (by decide) ?_
    refine lv_icmp_ne (tgt := 137) hx hb dX0_soonest_130 (by decide) (fun c_61 => ?_) (fun c_61 => ?_)
    · have hf := (if_neg c_61).symm.trans hf
      refine lv_iload_n hx hb dX0_soonest_137 rfl (lv_at hl 5 rfl) ?_
      refine lv_iload_n hx hb dX0_soonest_138 rfl (lv_at hl 1 rfl) ?_
      obtain ⟨r_62, h_63, hf⟩ := sm_b1_e hf
      refine vp_callSi (W.runS (As := [.int x_59, .int a1]) (rest := []) ⟨hx, hb, hml, hown, hts⟩ (wX0_rowIn l x_59 a1 r_62 h_63) (va_cwS 2 hts (lw_S q675 q676 q60 q677) rfl rfl rfl (by decide +kernel) ⟨Nat.le_of_ble_eq_true rfl, Nat.le_of_ble_eq_true rfl⟩) (sm_ps) rfl rfl hl.1 rfl (lv_room (Nat.le_of_ble_eq_true rfl)) dX0_soonest_139 ⟨Nat.le_of_ble_eq_true rfl, Nat.le_of_ble_eq_true rfl⟩) (fun r_65 er_64 => ?_)
      have er_64 := er_64.symm
      subst er_64
      have hf := Option.some.inj hf
      rw [← hQ]
      have hf := Prod.mk.inj hf
      exact W.iret (v := r_62) hx hb hr (fun t ht hW => ⟨⟨_, (), rfl, hf.2, by rw [ht, ← hf.1]; exact hP, by rw [← hf.1]; exact hD⟩, hS.F ht⟩) hS.2.2 dX0_soonest_142
    · have hf := (if_pos c_61).symm.trans hf
      refine lv_iload_n hx hb dX0_soonest_133 rfl (lv_at hl 4 rfl) ?_
      refine lv_goto (tgt := 142) hx hb dX0_soonest_134 (by decide) ?_
      have hf := Option.some.inj hf
      rw [← hQ]
      have hf := Prod.mk.inj hf
      exact W.iret (v := x_58) hx hb hr (fun t ht hW => ⟨⟨_, (), rfl, hf.2, by rw [ht, ← hf.1]; exact hP, by rw [← hf.1]; exact hD⟩, hS.F ht⟩) hS.2.2 dX0_soonest_142
  · have hf := (if_pos c_3).symm.trans hf
    refine lv_iconst (v := (-1)) hx hb dX0_soonest_8 (by decide) ?_
    have hf := Option.some.inj hf
    rw [← hQ]
    have hf := Prod.mk.inj hf
    exact W.iret (v := (-1)) hx hb hr (fun t ht hW => ⟨⟨_, (), rfl, hf.2, by rw [ht, ← hf.1]; exact hP, by rw [← hf.1]; exact hD⟩, hS.F ht⟩) hS.2.2 dX0_soonest_9
abbrev rX0_isPlan : Room := { frames := 2, cells := 0, slots := 0, locals := 43 }
set_option maxHeartbeats 4000000 in
theorem wX0_isPlan (l : Launch) (g : GG) (ad : Nat → Nat) (S : XS) (a1 : Int32) (rf : Int32) (hf : fX0_isPlan S a1 = some rf) : Met l yX0_isPlan (ws_ yX0_isPlan cX0_isPlan 5 (some .boolean)) rX0_isPlan (va_Pc [.ref (ad 0), .int a1] (fun Ux => PP g (WX g ad S) Ux.heap ∧ EV g Ux)) (vp_Si (fun y => y = rf)) 0 0 (fun _ => False) := by
  refine sm_st (by decide) ?_
  intro p e s m args below meth c hx hb hr hlocks hml hown hnm hts hv
  obtain ⟨hargs, hP, hE⟩ := hv
  obtain ⟨hK, hN⟩ := id hE
  have hown : s.vm.findClass RX0 = some m.cls := hown
  refine sm_en _ (Nat.le_of_ble_eq_true rfl) hargs (fun ls hl => ?_)
  have hl : lv_has ls 5 [(0, .ref (ad 0)), (1, .int a1)] := hl
  generalize hQ : MQ below _ args s _ _ _ = Q
  unfold fX0_isPlan at hf
  refine lv_iload_n hx hb dX0_isPlan_0 rfl (lv_at hl 1 rfl) ?_
  refine lv_istore_n (lv' := [(2, .int a1), (0, .ref (ad 0)), (1, .int a1)]) hx hb dX0_isPlan_1 rfl hl (by decide) rfl (fun ls hl => ?_)
  refine lv_iload_n hx hb dX0_isPlan_2 rfl (lv_at hl 2 rfl) ?_
  obtain ⟨x_1, hf, hf0⟩ := sm_b1_e hf
  suffices hj_2 : ∀ (ls : Array Slot), lv_has ls 5 [(2, .int a1), (0, .ref (ad 0)), (1, .int a1)] → W p l e rX0_isPlan s m args below meth c s.heap [] 0 0 Q (F0 m 11 ls [.int x_1]) from by
    refine lv_if_lt (tgt := 10) hx hb dX0_isPlan_3 (by decide) (fun c_3 => ?_) (fun c_3 => ?_)
    · have hf := (if_pos c_3).symm.trans hf
      refine lv_iconst (v := 0) hx hb dX0_isPlan_10 (by decide) ?_
      cases hf
      exact hj_2 _ (lv_sub hl [0, 1, 2] rfl)
    · have hf := (if_neg c_3).symm.trans hf
      refine lv_iconst (v := 1) hx hb dX0_isPlan_6 (by decide) ?_
      refine lv_goto (tgt := 11) hx hb dX0_isPlan_7 (by decide) ?_
      cases hf
      exact hj_2 _ (lv_sub hl [0, 1, 2] rfl)
  intro ls hl
  have hf := hf0
  refine lv_istore_n (lv' := [(3, .int x_1), (2, .int a1), (0, .ref (ad 0)), (1, .int a1)]) hx hb dX0_isPlan_11 rfl hl (by decide) rfl (fun ls hl => ?_)
  refine lv_iconst (v := 0) hx hb dX0_isPlan_12 (by decide) ?_
  refine lv_istore (lv' := [(4, .int 0), (3, .int x_1), (2, .int a1), (0, .ref (ad 0)), (1, .int a1)]) hx hb dX0_isPlan_13 hl (by decide) rfl (fun ls hl => ?_)
  have L_12 : ∀ (n : Nat) (x_4 : Int32) (x_5 : Int32) (x_6 : Int32) (o_13 : Int32) (o_14 : Int32) (o_15 : Int32) (ls : Array Slot), sm_lp (fun q => fX0_isPlan_15 S q.1 q.2.1 q.2.2) n (x_4, x_5, x_6) = some (o_13, o_14, o_15) → lv_has ls 5 [(0, .ref (ad 0)), (1, .int a1), (4, .int x_4), (3, .int x_5), (2, .int x_6)] → (∀ (ls : Array Slot), lv_has ls 5 [(0, .ref (ad 0)), (1, .int a1), (4, .int o_13), (3, .int o_14), (2, .int o_15)] → W p l e rX0_isPlan s m args below meth c s.heap [] 0 0 Q (F0 m 59 ls [])) → W p l e rX0_isPlan s m args below meth c s.heap [] 0 0 Q (F0 m 15 ls []) := by
    intro n
    induction n with
    | zero =>
      intro _ _ _ _ _ _ _ hf
      cases hf
    | succ n ih_7 =>
      intro x_4 x_5 x_6 o_13 o_14 o_15 ls hf hl kx_8
      obtain ⟨q, hf, hc_11⟩ := sm_bnd hf
      have hf : fX0_isPlan_15 S x_4 x_5 x_6 = some q := hf
      unfold fX0_isPlan_15 at hf
      refine lv_iload hx hb dX0_isPlan_15 (lv_at hl 2 rfl) ?_
      refine lv_aload_n hx hb dX0_isPlan_17 rfl (lv_at hl 0 rfl) ?_
      refine va_get (D := (g.1, g.2.1)) (ci := 0) (v := .ref (ad 1)) (C := RX0) (T := TX0) (N := 20) hx hb hts in_X0 hown hK hP 0 rfl rfl 0 (by decide) (hts _ q269) (fun _ h9 => h9) rfl dX0_isPlan_18 ?_
      refine va_getN (D := (g.1, g.2.1)) (ci := 1) (v := .int (S.2.2.2.2.1.1 6)) (C := RX1) (T := TX1) (N := 9) hx hb hts in_X1 hown hK hP 1 rfl rfl 6 (by decide) (va_Nw.use rfl (hN _ q121 rfl)) (fun _ h9 => h9) rfl dX0_isPlan_21 ?_
      refine lv_icmp_ge (tgt := 59) hx hb dX0_isPlan_24 (by decide) (fun c_16 => ?_) (fun c_16 => ?_)
      · have hf := (if_pos c_16).symm.trans hf
        cases hf
        have hc_11 : some (x_4, x_5, x_6) = some (o_13, o_14, o_15) := hc_11
        cases hc_11
        exact kx_8 _ (lv_sub hl [0, 1, 2, 3, 4] rfl)
      · have hf := (if_neg c_16).symm.trans hf
        refine lv_iload_n hx hb dX0_isPlan_27 rfl (lv_at hl 3 rfl) ?_
        obtain ⟨x_17, hf, hf0⟩ := sm_b1_e hf
        suffices hj_18 : ∀ (ls : Array Slot), lv_has ls 5 [(0, .ref (ad 0)), (1, .int a1), (4, .int x_4), (3, .int x_5), (2, .int x_6)] → W p l e rX0_isPlan s m args below meth c s.heap [] 0 0 Q (F0 m 47 ls [.int x_17]) from by
          refine lv_if_eq (tgt := 46) hx hb dX0_isPlan_28 (by decide) (fun c_19 => ?_) (fun c_19 => ?_)
          · have hf := (if_pos c_19).symm.trans hf
            refine lv_iconst (v := 0) hx hb dX0_isPlan_46 (by decide) ?_
            cases hf
            exact hj_18 _ (lv_sub hl [0, 1, 2, 3, 4] rfl)
          · have hf := (if_neg c_19).symm.trans hf
            refine lv_aload_n hx hb dX0_isPlan_31 rfl (lv_at hl 0 rfl) ?_
            refine lv_iload_n hx hb dX0_isPlan_32 rfl (lv_at hl 4 rfl) ?_
            refine lv_bipush (v := 10) hx hb dX0_isPlan_33 (by decide) ?_
            refine lv_irem hx hb dX0_isPlan_35 (by decide) ?_
            refine vp_callSi (W.runV (As := [.int (x_6 - x_6 / 10 * 10)]) (rest := []) ⟨hx, hb, hml, hown, hts⟩ (wX0_isRow l g ad S (x_6 - x_6 / 10 * 10) (fX0_isRow S (x_6 - x_6 / 10 * 10)) rfl) (cwV 1 hts (lw_V q612 q614 qs9 q60 q615) rfl rfl rfl (by decide +kernel) ⟨Nat.le_of_ble_eq_true rfl, Nat.le_of_ble_eq_true rfl⟩) (sm_pv hE hP (va_recv hK hP (ci := 0) (q0 := 0) rfl rfl)) rfl rfl hl.1 rfl (lv_room (Nat.le_of_ble_eq_true rfl)) dX0_isPlan_36 ⟨Nat.le_of_ble_eq_true rfl, Nat.le_of_ble_eq_true rfl⟩) (fun r_21 er_20 => ?_)
            have er_20 := er_20.symm
            subst er_20
            refine lv_if_eq (tgt := 46) hx hb dX0_isPlan_39 (by decide) (fun c_22 => ?_) (fun c_22 => ?_)
            · have hf := (if_pos c_22).symm.trans hf
              refine lv_iconst (v := 0) hx hb dX0_isPlan_46 (by decide) ?_
              cases hf
              exact hj_18 _ (lv_sub hl [0, 1, 2, 3, 4] rfl)
            · have hf := (if_neg c_22).symm.trans hf
              refine lv_iconst (v := 1) hx hb dX0_isPlan_42 (by decide) ?_
              refine lv_goto (tgt := 47) hx hb dX0_isPlan_43 (by decide) ?_
              cases hf
              exact hj_18 _ (lv_sub hl [0, 1, 2, 3, 4] rfl)
        intro ls hl
        have hf := hf0
        refine lv_istore_n (lv' := [(3, .int x_17), (0, .ref (ad 0)), (1, .int a1), (4, .int x_4), (2, .int x_6)]) hx hb dX0_isPlan_47 rfl hl (by decide) rfl (fun ls hl => ?_)
        refine lv_iload_n hx hb dX0_isPlan_48 rfl (lv_at hl 4 rfl) ?_
        refine lv_bipush (v := 10) hx hb dX0_isPlan_49 (by decide) ?_
        refine lv_idiv hx hb dX0_isPlan_51 (by decide) ?_
        refine lv_istore_n (lv' := [(2, .int (x_6 / 10)), (3, .int x_17), (0, .ref (ad 0)), (1, .int a1), (4, .int x_4)]) hx hb dX0_isPlan_52 rfl hl (by decide) rfl (fun ls hl => ?_)
        refine lv_iinc (v := x_4 + 1) (lv' := [(4, .int (x_4 + 1)), (2, .int (x_6 / 10)), (3, .int x_17), (0, .ref (ad 0)), (1, .int a1)]) hx hb dX0_isPlan_53 hl (k := 4) rfl rfl (by decide) rfl (fun ls hl => ?_)
        refine lv_goto (tgt := 15) hx hb dX0_isPlan_56 (by decide) ?_
        cases hf
        exact ih_7 _ _ _ _ _ _ _ hc_11 (lv_sub hl [3, 4, 0, 2, 1] rfl) kx_8
  obtain ⟨x_24, x_25, x_26, ho, hf⟩ := sm_b3_e hf
  refine L_12 FU 0 x_1 a1 x_24 x_25 x_26 ls ho (lv_sub hl [3, 4, 0, 1, 2] rfl) ?_
  intro ls hl
  refine lv_iload_n hx hb dX0_isPlan_59 rfl (lv_at hl 3 rfl) ?_
  refine lv_if_eq (tgt := 71) hx hb dX0_isPlan_60 (by decide) (fun c_27 => ?_) (fun c_27 => ?_)
  · have hf := (if_pos c_27).symm.trans hf
    refine lv_iconst (v := 0) hx hb dX0_isPlan_71 (by decide) ?_
    have hf := Option.some.inj hf
    rw [← hQ]
    exact W.zret (v := 0) hx hb hr rfl (fun t ht hW => ⟨_, rfl, hf, ht⟩) (fun _ h => by cases h) dX0_isPlan_72
  · have hf := (if_neg c_27).symm.trans hf
    refine lv_iload_n hx hb dX0_isPlan_63 rfl (lv_at hl 4 rfl) ?_
    refine lv_if_ne (tgt := 71) hx hb dX0_isPlan_64 (by decide) (fun c_28 => ?_) (fun c_28 => ?_)
    · have hf := (if_neg c_28).symm.trans hf
      refine lv_iconst (v := 0) hx hb dX0_isPlan_71 (by decide) ?_
      have hf := Option.some.inj hf
      rw [← hQ]
      exact W.zret (v := 0) hx hb hr rfl (fun t ht hW => ⟨_, rfl, hf, ht⟩) (fun _ h => by cases h) dX0_isPlan_72
    · have hf := (if_pos c_28).symm.trans hf
      refine lv_iconst (v := 1) hx hb dX0_isPlan_67 (by decide) ?_
      refine lv_goto (tgt := 72) hx hb dX0_isPlan_68 (by decide) ?_
      have hf := Option.some.inj hf
      rw [← hQ]
      exact W.zret (v := 1) hx hb hr rfl (fun t ht hW => ⟨_, rfl, hf, ht⟩) (fun _ h => by cases h) dX0_isPlan_72
abbrev rX0_plan : Room := { frames := 3, cells := 0, slots := 0, locals := 70 }
set_option maxHeartbeats 4000000 in
theorem wX0_plan (l : Launch) (g : GG) (ad : Nat → Nat) (S : XS) (a1 : Int32) (a2 : Int32) (Sf : XS) (rf : Int32) (hf : fX0_plan S a1 a2 = some (Sf, rf)) : Met l yX0_plan (ws_ yX0_plan cX0_plan 3 (some .int)) rX0_plan (va_Pc [.ref (ad 0), .int a1, .int a2] (fun Ux => PP g (WX g ad S) Ux.heap ∧ EV g Ux ∧ va_D (AX ad) (WX g ad S))) (va_Qi (fun y (_ : Unit) => y = rf) (fun _ t => PP g (WX g ad Sf) t.heap ∧ va_D (AX ad) (WX g ad Sf)) (AX ad)) 0 0 (AX ad) := by
  refine sm_st (by decide) ?_
  intro p e s m args below meth c hx hb hr hlocks hml hown hnm hts hv
  obtain ⟨hargs, hP, hE, hD⟩ := hv
  obtain ⟨hK, hN⟩ := id hE
  have hS : va_S (AX ad) s.heap s.heap [] := va_S.rf
  have hown : s.vm.findClass RX0 = some m.cls := hown
  refine sm_en _ (Nat.le_of_ble_eq_true rfl) hargs (fun ls hl => ?_)
  have hl : lv_has ls 3 [(0, .ref (ad 0)), (1, .int a1), (2, .int a2)] := hl
  generalize hQ : MQ below _ args s _ _ _ = Q
  unfold fX0_plan at hf
  refine lv_aload_n hx hb dX0_plan_0 rfl (lv_at hl 0 rfl) ?_
  refine lv_iload_n hx hb dX0_plan_1 rfl (lv_at hl 1 rfl) ?_
  obtain ⟨r_1, h_2, hf⟩ := sm_b1_e hf
  refine vp_callSi (W.runV (As := [.int a1]) (rest := []) ⟨hx, hb, hml, hown, hts⟩ (wX0_isPlan l g ad S a1 r_1 h_2) (cwV 1 hts (lw_V q696 q698 qs15 q60 q699) rfl rfl rfl (by decide +kernel) ⟨Nat.le_of_ble_eq_true rfl, Nat.le_of_ble_eq_true rfl⟩) (sm_pv hE hP (va_recv hK hP (ci := 0) (q0 := 0) rfl rfl)) rfl rfl hl.1 rfl (lv_room (Nat.le_of_ble_eq_true rfl)) dX0_plan_2 ⟨Nat.le_of_ble_eq_true rfl, Nat.le_of_ble_eq_true rfl⟩) (fun r_4 er_3 => ?_)
  have er_3 := er_3.symm
  subst er_3
  refine lv_if_eq (tgt := 16) hx hb dX0_plan_5 (by decide) (fun c_5 => ?_) (fun c_5 => ?_)
  · have hf := (if_pos c_5).symm.trans hf
    refine lv_iconst (v := (-1)) hx hb dX0_plan_16 (by decide) ?_
    have hf := Option.some.inj hf
    rw [← hQ]
    have hf := Prod.mk.inj hf
    exact W.iret (v := (-1)) hx hb hr (fun t ht hW => ⟨⟨_, (), rfl, hf.2, by rw [ht, ← hf.1]; exact hP, by rw [← hf.1]; exact hD⟩, hS.F ht⟩) hS.2.2 dX0_plan_17
  · have hf := (if_neg c_5).symm.trans hf
    refine lv_aload_n hx hb dX0_plan_8 rfl (lv_at hl 0 rfl) ?_
    refine lv_iload_n hx hb dX0_plan_9 rfl (lv_at hl 2 rfl) ?_
    refine vp_callSi (W.runV (As := [.int a2]) (rest := []) ⟨hx, hb, hml, hown, hts⟩ (wX0_isTravellerOrNone l g ad S a2 (fX0_isTravellerOrNone S a2) rfl) (cwV 1 hts (lw_V q667 q669 qs11 q60 q670) rfl rfl rfl (by decide +kernel) ⟨Nat.le_of_ble_eq_true rfl, Nat.le_of_ble_eq_true rfl⟩) (sm_pv hE hP (va_recv hK hP (ci := 0) (q0 := 0) rfl rfl)) rfl rfl hl.1 rfl (lv_room (Nat.le_of_ble_eq_true rfl)) dX0_plan_10 ⟨Nat.le_of_ble_eq_true rfl, Nat.le_of_ble_eq_true rfl⟩) (fun r_7 er_6 => ?_)
    have er_6 := er_6.symm
    subst er_6
    refine lv_if_ne (tgt := 18) hx hb dX0_plan_13 (by decide) (fun c_8 => ?_) (fun c_8 => ?_)
    · have hf := (if_neg c_8).symm.trans hf
      refine lv_aload_n hx hb dX0_plan_18 rfl (lv_at hl 0 rfl) ?_
      refine lv_iload_n hx hb dX0_plan_19 rfl (lv_at hl 1 rfl) ?_
      obtain ⟨S_9, h_10, hf⟩ := sm_b1_e hf
      refine va_callv (va_runV (As := [.int a1]) (rest := []) ⟨hx, hb, hml, hown, hts⟩ (wX0_go l g ad S a1 S_9 h_10) (cwV 1 hts (lw_V q671 q673 qs12 q60 q674) rfl rfl rfl (by decide +kernel) ⟨Nat.le_of_ble_eq_true rfl, Nat.le_of_ble_eq_true rfl⟩) (sm_pe hE hP hD (va_recv hK hP (ci := 0) (q0 := 0) rfl rfl)) rfl rfl hl.1 rfl (lv_room (Nat.le_of_ble_eq_true rfl)) dX0_plan_20 ⟨Nat.le_of_ble_eq_true rfl, Nat.le_of_ble_eq_true rfl⟩) hS (fun _ _ h => h) (fun _ h => h) (fun u t H locs ht hvm er_11 hB hz hk hS => ?_)
      obtain ⟨hP, hD⟩ := hB
      rw [ht] at hP
      refine lv_iload_n hx hb dX0_plan_23 rfl (lv_at hl 2 rfl) ?_
      refine lv_bipush (v := (-9)) hx hb dX0_plan_24 (by decide) ?_
      refine lv_icmp_ne (tgt := 39) hx hb dX0_plan_26 (by decide) (fun c_13 => ?_) (fun c_13 => ?_)
      · have hf := (if_neg c_13).symm.trans hf
        refine lv_aload_n hx hb dX0_plan_39 rfl (lv_at hl 0 rfl) ?_
        refine va_get (D := (g.1, g.2.1)) (ci := 0) (v := .ref (ad 10)) (C := RX0) (T := TX0) (N := 20) hx hb hts in_X0 hown hK hP 0 rfl rfl 9 (by decide) (hts _ q281) (fun _ h9 => h9) rfl dX0_plan_40 ?_
        refine lv_iload_n hx hb dX0_plan_43 rfl (lv_at hl 2 rfl) ?_
        obtain ⟨hg, hf⟩ := sm_gd_e hf
        refine va_iald hx hb hK hP 10 0 rfl rfl (sm_in hg) dX0_plan_44 ?_
        have hf := Option.some.inj hf
        rw [← hQ]
        have hf := Prod.mk.inj hf
        exact W.iret (v := S_9.2.1 9 a2.toNatClampNeg) hx hb hr (fun t ht hW => ⟨⟨_, (), rfl, hf.2, by rw [ht, ← hf.1]; exact hP, by rw [← hf.1]; exact hD⟩, hS.F ht⟩) hS.2.2 dX0_plan_45
      · have hf := (if_pos c_13).symm.trans hf
        refine lv_aload_n hx hb dX0_plan_29 rfl (lv_at hl 0 rfl) ?_
        refine va_get (D := (g.1, g.2.1)) (ci := 0) (v := .ref (ad 33)) (C := RX0) (T := TX0) (N := 20) hx hb hts in_X0 hown hK hP 0 rfl rfl 2 (by decide) (hts _ q272) (fun _ h9 => h9) rfl dX0_plan_30 ?_
        refine va_getN (D := (g.1, g.2.1)) (ci := 2) (v := .int ((S_9.2.2.1 1).1 1)) (C := RX2) (T := TX2) (N := 7) hx hb hts in_X2 hown hK hP 33 rfl rfl 1 (by decide) (va_Nw.use rfl (hN _ q163 rfl)) (fun _ h9 => h9) rfl dX0_plan_33 ?_
        refine lv_goto (tgt := 45) hx hb dX0_plan_36 (by decide) ?_
        have hf := Option.some.inj hf
        rw [← hQ]
        have hf := Prod.mk.inj hf
        exact W.iret (v := (S_9.2.2.1 1).1 1) hx hb hr (fun t ht hW => ⟨⟨_, (), rfl, hf.2, by rw [ht, ← hf.1]; exact hP, by rw [← hf.1]; exact hD⟩, hS.F ht⟩) hS.2.2 dX0_plan_45
    · have hf := (if_pos c_8).symm.trans hf
      refine lv_iconst (v := (-1)) hx hb dX0_plan_16 (by decide) ?_
      have hf := Option.some.inj hf
      rw [← hQ]
      have hf := Prod.mk.inj hf
      exact W.iret (v := (-1)) hx hb hr (fun t ht hW => ⟨⟨_, (), rfl, hf.2, by rw [ht, ← hf.1]; exact hP, by rw [← hf.1]; exact hD⟩, hS.F ht⟩) hS.2.2 dX0_plan_17
abbrev rX0_waits : Room := { frames := 2, cells := 0, slots := 0, locals := 43 }
set_option maxHeartbeats 4000000 in
theorem wX0_waits (l : Launch) (g : GG) (ad : Nat → Nat) (S : XS) (a1 : Int32) (rf : Int32) (hf : fX0_waits S a1 = some rf) : Met l yX0_waits (ws_ yX0_waits cX0_waits 2 (some .int)) rX0_waits (va_Pc [.ref (ad 0), .int a1] (fun Ux => PP g (WX g ad S) Ux.heap ∧ EV g Ux)) (vp_Si (fun y => y = rf)) 0 0 (fun _ => False) := by
  refine sm_st (by decide) ?_
  intro p e s m args below meth c hx hb hr hlocks hml hown hnm hts hv
  obtain ⟨hargs, hP, hE⟩ := hv
  obtain ⟨hK, hN⟩ := id hE
  have hown : s.vm.findClass RX0 = some m.cls := hown
  refine sm_en _ (Nat.le_of_ble_eq_true rfl) hargs (fun ls hl => ?_)
  have hl : lv_has ls 2 [(0, .ref (ad 0)), (1, .int a1)] := hl
  generalize hQ : MQ below _ args s _ _ _ = Q
  unfold fX0_waits at hf
  refine lv_aload_n hx hb dX0_waits_0 rfl (lv_at hl 0 rfl) ?_
  refine lv_iload_n hx hb dX0_waits_1 rfl (lv_at hl 1 rfl) ?_
  refine vp_callSi (W.runV (As := [.int a1]) (rest := []) ⟨hx, hb, hml, hown, hts⟩ (wX0_isTraveller l g ad S a1 (fX0_isTraveller S a1) rfl) (cwV 1 hts (lw_V q580 q582 qs7 q60 q583) rfl rfl rfl (by decide +kernel) ⟨Nat.le_of_ble_eq_true rfl, Nat.le_of_ble_eq_true rfl⟩) (sm_pv hE hP (va_recv hK hP (ci := 0) (q0 := 0) rfl rfl)) rfl rfl hl.1 rfl (lv_room (Nat.le_of_ble_eq_true rfl)) dX0_waits_2 ⟨Nat.le_of_ble_eq_true rfl, Nat.le_of_ble_eq_true rfl⟩) (fun r_2 er_1 => ?_)
  have er_1 := er_1.symm
  subst er_1
  refine lv_if_ne (tgt := 10) hx hb dX0_waits_5 (by decide) (fun c_3 => ?_) (fun c_3 => ?_)
  · have hf := (if_neg c_3).symm.trans hf
    refine lv_aload_n hx hb dX0_waits_10 rfl (lv_at hl 0 rfl) ?_
    refine va_get (D := (g.1, g.2.1)) (ci := 0) (v := .ref (ad 29)) (C := RX0) (T := TX0) (N := 20) hx hb hts in_X0 hown hK hP 0 rfl rfl 1 (by decide) (hts _ q271) (fun _ h9 => h9) rfl dX0_waits_11 ?_
    refine va_getN (D := (g.1, g.2.1)) (ci := 2) (v := .ref (ad 30)) (C := RX2) (T := TX2) (N := 7) hx hb hts in_X2 hown hK hP 29 rfl rfl 3 (by decide) (va_Nw.use rfl (hN _ q168 rfl)) (fun _ h9 => h9) rfl dX0_waits_14 ?_
    refine lv_iload_n hx hb dX0_waits_17 rfl (lv_at hl 1 rfl) ?_
    obtain ⟨hg, hf⟩ := sm_gd_e hf
    refine va_iald hx hb hK hP 30 0 rfl rfl (sm_in hg) dX0_waits_18 ?_
    refine lv_bipush (v := (-9)) hx hb dX0_waits_19 (by decide) ?_
    refine lv_icmp_ne (tgt := 29) hx hb dX0_waits_21 (by decide) (fun c_4 => ?_) (fun c_4 => ?_)
    · have hf := (if_neg c_4).symm.trans hf
      refine lv_iconst (v := 0) hx hb dX0_waits_29 (by decide) ?_
      refine lv_aload_n hx hb dX0_waits_30 rfl (lv_at hl 0 rfl) ?_
      refine va_get (D := (g.1, g.2.1)) (ci := 0) (v := .ref (ad 1)) (C := RX0) (T := TX0) (N := 20) hx hb hts in_X0 hown hK hP 0 rfl rfl 0 (by decide) (hts _ q269) (fun _ h9 => h9) rfl dX0_waits_31 ?_
      refine va_getN (D := (g.1, g.2.1)) (ci := 1) (v := .ref (ad 2)) (C := RX1) (T := TX1) (N := 9) hx hb hts in_X1 hown hK hP 1 rfl rfl 0 (by decide) (va_Nw.use rfl (hN _ q101 rfl)) (fun _ h9 => h9) rfl dX0_waits_34 ?_
      refine lv_iconst (v := 0) hx hb dX0_waits_37 (by decide) ?_
      refine va_iald hx hb hK hP 2 0 rfl rfl (sm_in rfl) dX0_waits_38 ?_
      refine lv_aload_n hx hb dX0_waits_39 rfl (lv_at hl 0 rfl) ?_
      refine va_get (D := (g.1, g.2.1)) (ci := 0) (v := .ref (ad 29)) (C := RX0) (T := TX0) (N := 20) hx hb hts in_X0 hown hK hP 0 rfl rfl 1 (by decide) (hts _ q271) (fun _ h9 => h9) rfl dX0_waits_40 ?_
      refine va_getN (D := (g.1, g.2.1)) (ci := 2) (v := .ref (ad 31)) (C := RX2) (T := TX2) (N := 7) hx hb hts in_X2 hown hK hP 29 rfl rfl 4 (by decide) (va_Nw.use rfl (hN _ q170 rfl)) (fun _ h9 => h9) rfl dX0_waits_43 ?_
      refine lv_iload_n hx hb dX0_waits_46 rfl (lv_at hl 1 rfl) ?_
      obtain ⟨hg, hf⟩ := sm_gd_e hf
      refine va_iald hx hb hK hP 31 0 rfl rfl (sm_in hg) dX0_waits_47 ?_
      refine lv_isub hx hb dX0_waits_48 ?_
      refine va_mmax hx hb (hml.trans hl.1.symm) hown (hts _ q682) (hts _ q431) (hts _ q72) (hts _ q432) (Nat.le_of_ble_eq_true rfl) (Nat.le_of_ble_eq_true rfl) (Nat.le_of_ble_eq_true rfl) (Nat.le_of_ble_eq_true rfl) dX0_waits_49 ?_
      have hf := Option.some.inj hf
      rw [← hQ]
      exact W.iret (v := if 0 < ((S.2.2.2.2.1.2 0 0) - ((S.2.2.1 0).2 4 a1.toNatClampNeg)) then ((S.2.2.2.2.1.2 0 0) - ((S.2.2.1 0).2 4 a1.toNatClampNeg)) else 0) hx hb hr (fun t ht hW => ⟨_, rfl, hf, ht⟩) (fun _ h => by cases h) dX0_waits_52
    · have hf := (if_pos c_4).symm.trans hf
      refine lv_bipush (v := (-2)) hx hb dX0_waits_24 (by decide) ?_
      refine lv_goto (tgt := 52) hx hb dX0_waits_26 (by decide) ?_
      have hf := Option.some.inj hf
      rw [← hQ]
      exact W.iret (v := (-2)) hx hb hr (fun t ht hW => ⟨_, rfl, hf, ht⟩) (fun _ h => by cases h) dX0_waits_52
  · have hf := (if_pos c_3).symm.trans hf
    refine lv_iconst (v := (-1)) hx hb dX0_waits_8 (by decide) ?_
    have hf := Option.some.inj hf
    rw [← hQ]
    exact W.iret (v := (-1)) hx hb hr (fun t ht hW => ⟨_, rfl, hf, ht⟩) (fun _ h => by cases h) dX0_waits_9
