/-! String.indexOf, the Reader: walked: printed by gen/rd.py -/
set_option maxRecDepth 100000
abbrev rJ3_canEncode : Room := { frames := 0, cells := 0, slots := 0, locals := 0 }
set_option maxHeartbeats 4000000 in
theorem wJ3_canEncode (l : Launch) (a1 : Int32) (rf : Int32) (hf : fJ3_canEncode a1 = rf) : Met l yJ3_canEncode (ws_ yJ3_canEncode cJ3_canEncode 1 (some .boolean)) rJ3_canEncode (va_Pc [.int a1] (fun _ => True)) (vp_Si (fun y => y = rf)) 0 0 (fun _ => False) := by
  refine sm_st (by decide) ?_
  intro p e s m args below meth c hx hb hr hlocks hml hown hnm hts hv
  obtain ⟨hargs, -⟩ := hv
  have hown : s.vm.findClass RJ3 = some m.cls := hown
  refine sm_en _ (Nat.le_of_ble_eq_true rfl) hargs (fun ls hl => ?_)
  have hl : lv_has ls 1 [(0, .int a1)] := hl
  generalize hQ : MQ below _ args s _ _ _ = Q
  unfold fJ3_canEncode at hf
  refine lv_iload_n hx hb dJ3_canEncode_0 rfl (lv_at hl 0 rfl) ?_
  refine lv_if_lt (tgt := 15) hx hb dJ3_canEncode_1 (by decide) (fun c_1 => ?_) (fun c_1 => ?_)
  · have hf := (if_pos c_1).symm.trans hf
    refine lv_iconst (v := 0) hx hb dJ3_canEncode_15 (by decide) ?_
    rw [← hQ]
    exact W.zret (v := 0) hx hb hr rfl (fun t ht hW => ⟨_, rfl, hf, ht⟩) (fun _ h => by cases h) dJ3_canEncode_16
  · have hf := (if_neg c_1).symm.trans hf
    refine lv_iload_n hx hb dJ3_canEncode_4 rfl (lv_at hl 0 rfl) ?_
    refine lv_sipush (v := 255) hx hb dJ3_canEncode_5 (by decide) ?_
    refine lv_icmp_gt (tgt := 15) hx hb dJ3_canEncode_8 (by decide) (fun c_2 => ?_) (fun c_2 => ?_)
    · have hf := (if_pos c_2).symm.trans hf
      refine lv_iconst (v := 0) hx hb dJ3_canEncode_15 (by decide) ?_
      rw [← hQ]
      exact W.zret (v := 0) hx hb hr rfl (fun t ht hW => ⟨_, rfl, hf, ht⟩) (fun _ h => by cases h) dJ3_canEncode_16
    · have hf := (if_neg c_2).symm.trans hf
      refine lv_iconst (v := 1) hx hb dJ3_canEncode_11 (by decide) ?_
      refine lv_goto (tgt := 16) hx hb dJ3_canEncode_12 (by decide) ?_
      rw [← hQ]
      exact W.zret (v := 1) hx hb hr rfl (fun t ht hW => ⟨_, rfl, hf, ht⟩) (fun _ h => by cases h) dJ3_canEncode_16
abbrev rJ2_isLatin1 : Room := { frames := 0, cells := 0, slots := 0, locals := 0 }
set_option maxHeartbeats 4000000 in
theorem wJ2_isLatin1 (l : Launch) (z : ZZ) (A : Nat → Prop) (rf : Int32) (hf : fJ2_isLatin1 = rf) : Met l yJ2_isLatin1 (ws_ yJ2_isLatin1 cJ2_isLatin1 1 (some .boolean)) rJ2_isLatin1 (va_Pc [.ref z.2.1] (fun Ux => ZO z A Ux Ux.heap)) (vp_Si (fun y => y = rf)) 0 0 (fun _ => False) := by
  refine sm_st (by decide) ?_
  intro p e s m args below meth c hx hb hr hlocks hml hown hnm hts hv
  obtain ⟨hargs, hZ⟩ := hv
  have hS : va_S A s.heap s.heap [] := va_S.rf
  have hown : s.vm.findClass RJ2 = some m.cls := hown
  refine sm_en _ (Nat.le_of_ble_eq_true rfl) hargs (fun ls hl => ?_)
  have hl : lv_has ls 1 [(0, .ref z.2.1)] := hl
  generalize hQ : MQ below _ args s _ _ _ = Q
  unfold fJ2_isLatin1 at hf
  refine va_gets hx hb hZ.2.2.1 hS hown (hts _ q414) (fun _ h9 => h9) dJ2_isLatin1_0 ?_
  refine lv_if_eq (tgt := 17) hx hb dJ2_isLatin1_3 (by decide) (fun c_1 => ?_) (fun c_1 => ?_)
  · first | exact absurd c_1 (by decide) | exact absurd (by decide) c_1
  · refine lv_aload_n hx hb dJ2_isLatin1_6 rfl (lv_at hl 0 rfl) ?_
    refine vk_getf hx hb hZ.coder hS hown (hts _ q1281) (fun _ h9 => h9) dJ2_isLatin1_7 ?_
    refine lv_if_ne (tgt := 17) hx hb dJ2_isLatin1_10 (by decide) (fun c_2 => ?_) (fun c_2 => ?_)
    · first | exact absurd c_2 (by decide) | exact absurd (by decide) c_2
    · refine lv_iconst (v := 1) hx hb dJ2_isLatin1_13 (by decide) ?_
      refine lv_goto (tgt := 18) hx hb dJ2_isLatin1_14 (by decide) ?_
      rw [← hQ]
      exact W.zret (v := 1) hx hb hr rfl (fun t ht hW => ⟨_, rfl, hf, ht⟩) (fun _ h => by cases h) dJ2_isLatin1_18
abbrev rJ2_coder : Room := { frames := 0, cells := 0, slots := 0, locals := 0 }
set_option maxHeartbeats 4000000 in
theorem wJ2_coder (l : Launch) (z : ZZ) (A : Nat → Prop) (rf : Int32) (hf : fJ2_coder = rf) : Met l yJ2_coder (ws_ yJ2_coder cJ2_coder 1 (some .byte)) rJ2_coder (va_Pc [.ref z.2.1] (fun Ux => ZO z A Ux Ux.heap)) (vp_Si (fun y => y = rf)) 0 0 (fun _ => False) := by
  refine sm_st (by decide) ?_
  intro p e s m args below meth c hx hb hr hlocks hml hown hnm hts hv
  obtain ⟨hargs, hZ⟩ := hv
  have hS : va_S A s.heap s.heap [] := va_S.rf
  have hown : s.vm.findClass RJ2 = some m.cls := hown
  refine sm_en _ (Nat.le_of_ble_eq_true rfl) hargs (fun ls hl => ?_)
  have hl : lv_has ls 1 [(0, .ref z.2.1)] := hl
  generalize hQ : MQ below _ args s _ _ _ = Q
  unfold fJ2_coder at hf
  refine va_gets hx hb hZ.2.2.1 hS hown (hts _ q414) (fun _ h9 => h9) dJ2_coder_0 ?_
  refine lv_if_eq (tgt := 13) hx hb dJ2_coder_3 (by decide) (fun c_1 => ?_) (fun c_1 => ?_)
  · first | exact absurd c_1 (by decide) | exact absurd (by decide) c_1
  · refine lv_aload_n hx hb dJ2_coder_6 rfl (lv_at hl 0 rfl) ?_
    refine vk_getf hx hb hZ.coder hS hown (hts _ q1281) (fun _ h9 => h9) dJ2_coder_7 ?_
    refine lv_goto (tgt := 14) hx hb dJ2_coder_10 (by decide) ?_
    rw [← hQ]
    exact W.zret (v := 0) hx hb hr rfl (fun t ht hW => ⟨_, rfl, hf, ht⟩) (fun _ h => by cases h) dJ2_coder_14
abbrev rJ2_length : Room := { frames := 1, cells := 0, slots := 0, locals := 20 }
set_option maxHeartbeats 4000000 in
theorem wJ2_length (l : Launch) (z : ZZ) (A : Nat → Prop) (rf : Int32) (hf : fJ2_length = rf) : Met l yJ2_length (ws_ yJ2_length cJ2_length 1 (some .int)) rJ2_length (va_Pc [.ref z.2.1] (fun Ux => ZO z A Ux Ux.heap)) (vp_Si (fun y => y = rf)) 0 0 (fun _ => False) := by
  refine sm_st (by decide) ?_
  intro p e s m args below meth c hx hb hr hlocks hml hown hnm hts hv
  obtain ⟨hargs, hZ⟩ := hv
  have hS : va_S A s.heap s.heap [] := va_S.rf
  have hown : s.vm.findClass RJ2 = some m.cls := hown
  refine sm_en _ (Nat.le_of_ble_eq_true rfl) hargs (fun ls hl => ?_)
  have hl : lv_has ls 1 [(0, .ref z.2.1)] := hl
  generalize hQ : MQ below _ args s _ _ _ = Q
  unfold fJ2_length at hf
  refine lv_aload_n hx hb dJ2_length_0 rfl (lv_at hl 0 rfl) ?_
  refine vk_getf hx hb hZ.value hS hown (hts _ q1282) (fun _ h9 => h9) dJ2_length_1 ?_
  refine va_tlen (v := 5) hx hb hZ.bytes hS rfl dJ2_length_4 ?_
  refine lv_aload_n hx hb dJ2_length_5 rfl (lv_at hl 0 rfl) ?_
  refine vp_callSi (W.runV (As := []) (rest := [.int 5]) ⟨hx, hb, hml, hown, hts⟩ (wJ2_coder l z A  0 rfl) (cwV 0 hts (lw_V q420 q421 q422 q73 q423) rfl rfl rfl (by decide +kernel) ⟨Nat.le_of_ble_eq_true rfl, Nat.le_of_ble_eq_true rfl⟩) (sm_pzV hZ hS) rfl rfl hl.1 rfl (lv_room (Nat.le_of_ble_eq_true rfl)) dJ2_length_6 ⟨Nat.le_of_ble_eq_true rfl, Nat.le_of_ble_eq_true rfl⟩) (fun r_2 er_1 => ?_)
  have er_1 := er_1.symm
  subst er_1
  refine lv_ishr hx hb dJ2_length_9 ?_
  rw [← hQ]
  exact W.iret (v := (5 : Int32) >>> ((0 : Int32) &&& 31)) hx hb hr (fun t ht hW => ⟨_, rfl, hf, ht⟩) (fun _ h => by cases h) dJ2_length_10
abbrev rJ3_indexOfChar : Room := { frames := 0, cells := 0, slots := 0, locals := 0 }
set_option maxHeartbeats 4000000 in
theorem wJ3_indexOfChar (l : Launch) (z : ZZ) (A : Nat → Prop) (a2 : Int32) (a3 : Int32) (a4 : Int32) (rf : Int32) (hf : fJ3_indexOfChar a2 a3 a4 = some rf) : Met l yJ3_indexOfChar (ws_ yJ3_indexOfChar cJ3_indexOfChar 6 (some .int)) rJ3_indexOfChar (va_Pc [.ref z.2.2.1, .int a2, .int a3, .int a4] (fun Ux => ZO z A Ux Ux.heap)) (vp_Si (fun y => y = rf)) 0 0 (fun _ => False) := by
  refine sm_st (by decide) ?_
  intro p e s m args below meth c hx hb hr hlocks hml hown hnm hts hv
  obtain ⟨hargs, hZ⟩ := hv
  have hS : va_S A s.heap s.heap [] := va_S.rf
  have hown : s.vm.findClass RJ3 = some m.cls := hown
  refine sm_en _ (Nat.le_of_ble_eq_true rfl) hargs (fun ls hl => ?_)
  have hl : lv_has ls 6 [(0, .ref z.2.2.1), (1, .int a2), (2, .int a3), (3, .int a4)] := hl
  generalize hQ : MQ below _ args s _ _ _ = Q
  unfold fJ3_indexOfChar at hf
  refine lv_iload_n hx hb dJ3_indexOfChar_0 rfl (lv_at hl 1 rfl) ?_
  refine lv_i2b (v := a2.toInt8.toInt32) hx hb dJ3_indexOfChar_1 rfl ?_
  refine lv_istore (lv' := [(4, .int a2.toInt8.toInt32), (0, .ref z.2.2.1), (1, .int a2), (2, .int a3), (3, .int a4)]) hx hb dJ3_indexOfChar_2 hl (by decide) rfl (fun ls hl => ?_)
  refine lv_iload_n hx hb dJ3_indexOfChar_4 rfl (lv_at hl 3 rfl) ?_
  refine lv_istore (lv' := [(5, .int a3), (4, .int a2.toInt8.toInt32), (0, .ref z.2.2.1), (1, .int a2), (2, .int a3), (3, .int a4)]) hx hb dJ3_indexOfChar_5 hl (by decide) rfl (fun ls hl => ?_)
  have L_7 : ∀ (n : Nat) (x_1 : Int32) (o_5 : (Int32 ⊕ Int32)) (ls : Array Slot), sm_lp (fun q => fJ3_indexOfChar_7 a2 a4 q) n x_1 = some o_5 → lv_has ls 6 [(4, .int a2.toInt8.toInt32), (0, .ref z.2.2.1), (1, .int a2), (2, .int a3), (3, .int a4), (5, .int x_1)] → (∀ (x_1 : Int32) (ls : Array Slot), o_5 = Sum.inl x_1 → lv_has ls 6 [(4, .int a2.toInt8.toInt32), (0, .ref z.2.2.1), (1, .int a2), (2, .int a3), (3, .int a4), (5, .int x_1)] → W p l e rJ3_indexOfChar s m args below meth c s.heap [] 0 0 Q (F0 m 31 ls [])) → (∀ rv : Int32, o_5 = Sum.inr rv → rv = rf) → W p l e rJ3_indexOfChar s m args below meth c s.heap [] 0 0 Q (F0 m 7 ls []) := by
    intro n
    induction n with
    | zero =>
      intro _ _ _ hf
      cases hf
    | succ n ih_2 =>
      intro x_1 o_5 ls hf hl kx_3 kr_4
      obtain ⟨q, hf, hc_6⟩ := sm_bnd hf
      have hf : fJ3_indexOfChar_7 a2 a4 x_1 = some q := hf
      unfold fJ3_indexOfChar_7 at hf
      refine lv_iload hx hb dJ3_indexOfChar_7 (lv_at hl 5 rfl) ?_
      refine lv_iload_n hx hb dJ3_indexOfChar_9 rfl (lv_at hl 4 rfl) ?_
      refine lv_icmp_ge (tgt := 31) hx hb dJ3_indexOfChar_10 (by decide) (fun c_9 => ?_) (fun c_9 => ?_)
      · have hf := (if_pos c_9).symm.trans hf
        cases hf
        exact kx_3 _ _ (Option.some.inj hc_6).symm (lv_sub hl [0, 1, 2, 3, 4, 5] rfl)
      · have hf := (if_neg c_9).symm.trans hf
        refine lv_aload_n hx hb dJ3_indexOfChar_13 rfl (lv_at hl 1 rfl) ?_
        refine lv_iload hx hb dJ3_indexOfChar_14 (lv_at hl 5 rfl) ?_
        obtain ⟨hg, hf⟩ := sm_gd_e hf
        refine va_tb hx hb hZ.bytes hS (sm_in hg) rfl dJ3_indexOfChar_16 ?_
        refine lv_iload hx hb dJ3_indexOfChar_17 (lv_at hl 0 rfl) ?_
        refine lv_icmp_ne (tgt := 25) hx hb dJ3_indexOfChar_19 (by decide) (fun c_10 => ?_) (fun c_10 => ?_)
        · have hf := (if_neg c_10).symm.trans hf
          refine lv_iinc (v := x_1 + 1) (lv' := [(5, .int (x_1 + 1)), (4, .int a2.toInt8.toInt32), (0, .ref z.2.2.1), (1, .int a2), (2, .int a3), (3, .int a4)]) hx hb dJ3_indexOfChar_25 hl (k := 5) rfl rfl (by decide) rfl (fun ls hl => ?_)
          refine lv_goto (tgt := 7) hx hb dJ3_indexOfChar_28 (by decide) ?_
          cases hf
          exact ih_2 _ _ _ hc_6 (lv_sub hl [1, 2, 3, 4, 5, 0] rfl) kx_3 kr_4
        · have hf := (if_pos c_10).symm.trans hf
          refine lv_iload hx hb dJ3_indexOfChar_22 (lv_at hl 5 rfl) ?_
          cases hf
          have hf := kr_4 _ (Option.some.inj hc_6).symm
          rw [← hQ]
          exact W.iret (v := x_1) hx hb hr (fun t ht hW => ⟨_, rfl, hf, ht⟩) (fun _ h => by cases h) dJ3_indexOfChar_24
  obtain ⟨o_11, ho, hf⟩ := sm_r_e hf
  refine L_7 FU a3 o_11 ls ho (lv_sub hl [1, 2, 3, 4, 5, 0] rfl) ?_ ?_
  · intro x_12 ls eo hl
    subst eo
    dsimp only [Sum.elim_inl, sm_u1] at hf
    refine lv_iconst (v := (-1)) hx hb dJ3_indexOfChar_31 (by decide) ?_
    have hf := Option.some.inj hf
    rw [← hQ]
    exact W.iret (v := (-1)) hx hb hr (fun t ht hW => ⟨_, rfl, hf, ht⟩) (fun _ h => by cases h) dJ3_indexOfChar_32
  · intro rv_13 eo
    subst eo
    have hf : some rv_13 = _ := hf
    have hf := Option.some.inj hf
    exact hf
abbrev rJ3_indexOf : Room := { frames := 1, cells := 0, slots := 0, locals := 40 }
set_option maxHeartbeats 4000000 in
theorem wJ3_indexOf (l : Launch) (z : ZZ) (A : Nat → Prop) (a2 : Int32) (a3 : Int32) (a4 : Int32) (rf : Int32) (hf : fJ3_indexOf a2 a3 a4 = some rf) : Met l yJ3_indexOf (ws_ yJ3_indexOf cJ3_indexOf 4 (some .int)) rJ3_indexOf (va_Pc [.ref z.2.2.1, .int a2, .int a3, .int a4] (fun Ux => ZO z A Ux Ux.heap)) (vp_Si (fun y => y = rf)) 0 0 (fun _ => False) := by
  refine sm_st (by decide) ?_
  intro p e s m args below meth c hx hb hr hlocks hml hown hnm hts hv
  obtain ⟨hargs, hZ⟩ := hv
  have hS : va_S A s.heap s.heap [] := va_S.rf
  have hown : s.vm.findClass RJ3 = some m.cls := hown
  refine sm_en _ (Nat.le_of_ble_eq_true rfl) hargs (fun ls hl => ?_)
  have hl : lv_has ls 4 [(0, .ref z.2.2.1), (1, .int a2), (2, .int a3), (3, .int a4)] := hl
  generalize hQ : MQ below _ args s _ _ _ = Q
  unfold fJ3_indexOf at hf
  refine lv_iload_n hx hb dJ3_indexOf_0 rfl (lv_at hl 1 rfl) ?_
  refine vp_callSi (W.runS (As := [.int a2]) (rest := []) ⟨hx, hb, hml, hown, hts⟩ (wJ3_canEncode l a2 (fJ3_canEncode a2) rfl) (va_cwS 1 hts (lw_S q427 q428 q74 q429) rfl rfl rfl (by decide +kernel) ⟨Nat.le_of_ble_eq_true rfl, Nat.le_of_ble_eq_true rfl⟩) (sm_ps) rfl rfl hl.1 rfl (lv_room (Nat.le_of_ble_eq_true rfl)) dJ3_indexOf_1 ⟨Nat.le_of_ble_eq_true rfl, Nat.le_of_ble_eq_true rfl⟩) (fun r_2 er_1 => ?_)
  have er_1 := er_1.symm
  subst er_1
  refine lv_if_ne (tgt := 9) hx hb dJ3_indexOf_4 (by decide) (fun c_3 => ?_) (fun c_3 => ?_)
  · have hf := (if_neg c_3).symm.trans hf
    refine lv_iload_n hx hb dJ3_indexOf_9 rfl (lv_at hl 2 rfl) ?_
    refine lv_iconst (v := 0) hx hb dJ3_indexOf_10 (by decide) ?_
    refine va_mmax hx hb (hml.trans hl.1.symm) hown (hts _ q430) (hts _ q431) (hts _ q72) (hts _ q432) (Nat.le_of_ble_eq_true rfl) (Nat.le_of_ble_eq_true rfl) (Nat.le_of_ble_eq_true rfl) (Nat.le_of_ble_eq_true rfl) dJ3_indexOf_11 ?_
    refine lv_istore_n (lv' := [(2, .int (if a3 < 0 then 0 else a3)), (0, .ref z.2.2.1), (1, .int a2), (3, .int a4)]) hx hb dJ3_indexOf_14 rfl hl (by decide) rfl (fun ls hl => ?_)
    refine lv_iload_n hx hb dJ3_indexOf_15 rfl (lv_at hl 3 rfl) ?_
    refine lv_aload_n hx hb dJ3_indexOf_16 rfl (lv_at hl 1 rfl) ?_
    refine va_tlen (v := 5) hx hb hZ.bytes hS rfl dJ3_indexOf_17 ?_
    refine va_mmin hx hb (hml.trans hl.1.symm) hown (hts _ q433) (hts _ q399) (hts _ q72) (hts _ q400) (Nat.le_of_ble_eq_true rfl) (Nat.le_of_ble_eq_true rfl) (Nat.le_of_ble_eq_true rfl) (Nat.le_of_ble_eq_true rfl) dJ3_indexOf_18 ?_
    refine lv_istore_n (lv' := [(3, .int (if 5 < a4 then 5 else a4)), (2, .int (if a3 < 0 then 0 else a3)), (0, .ref z.2.2.1), (1, .int a2)]) hx hb dJ3_indexOf_21 rfl hl (by decide) rfl (fun ls hl => ?_)
    refine lv_iload_n hx hb dJ3_indexOf_22 rfl (lv_at hl 1 rfl) ?_
    refine lv_iload_n hx hb dJ3_indexOf_23 rfl (lv_at hl 0 rfl) ?_
    refine lv_icmp_lt (tgt := 29) hx hb dJ3_indexOf_24 (by decide) (fun c_4 => ?_) (fun c_4 => ?_)
    · have hf := (if_pos c_4).symm.trans hf
      refine lv_aload_n hx hb dJ3_indexOf_29 rfl (lv_at hl 2 rfl) ?_
      refine lv_iload_n hx hb dJ3_indexOf_30 rfl (lv_at hl 3 rfl) ?_
      refine lv_iload_n hx hb dJ3_indexOf_31 rfl (lv_at hl 1 rfl) ?_
      refine lv_iload_n hx hb dJ3_indexOf_32 rfl (lv_at hl 0 rfl) ?_
      obtain ⟨r_5, h_6, hf⟩ := sm_b1_e hf
      refine vp_callSi (W.runS (As := [.ref z.2.2.1, .int a2, .int (if a3 < 0 then 0 else a3), .int (if 5 < a4 then 5 else a4)]) (rest := []) ⟨hx, hb, hml, hown, hts⟩ (wJ3_indexOfChar l z A a2 (if a3 < 0 then 0 else a3) (if 5 < a4 then 5 else a4) r_5 h_6) (va_cwS 4 hts (lw_S q434 q435 q74 q436) rfl rfl rfl (by decide +kernel) ⟨Nat.le_of_ble_eq_true rfl, Nat.le_of_ble_eq_true rfl⟩) (sm_pz hZ hS) rfl rfl hl.1 rfl (lv_room (Nat.le_of_ble_eq_true rfl)) dJ3_indexOf_33 ⟨Nat.le_of_ble_eq_true rfl, Nat.le_of_ble_eq_true rfl⟩) (fun r_8 er_7 => ?_)
      have er_7 := er_7.symm
      subst er_7
      have hf := Option.some.inj hf
      rw [← hQ]
      exact W.iret (v := r_5) hx hb hr (fun t ht hW => ⟨_, rfl, hf, ht⟩) (fun _ h => by cases h) dJ3_indexOf_36
    · have hf := (if_neg c_4).symm.trans hf
      refine lv_iconst (v := (-1)) hx hb dJ3_indexOf_27 (by decide) ?_
      have hf := Option.some.inj hf
      rw [← hQ]
      exact W.iret (v := (-1)) hx hb hr (fun t ht hW => ⟨_, rfl, hf, ht⟩) (fun _ h => by cases h) dJ3_indexOf_28
  · have hf := (if_pos c_3).symm.trans hf
    refine lv_iconst (v := (-1)) hx hb dJ3_indexOf_7 (by decide) ?_
    have hf := Option.some.inj hf
    rw [← hQ]
    exact W.iret (v := (-1)) hx hb hr (fun t ht hW => ⟨_, rfl, hf, ht⟩) (fun _ h => by cases h) dJ3_indexOf_8
abbrev rJ2_indexOf_2 : Room := { frames := 2, cells := 0, slots := 0, locals := 63 }
set_option maxHeartbeats 4000000 in
theorem wJ2_indexOf_2 (l : Launch) (z : ZZ) (A : Nat → Prop) (a1 : Int32) (a2 : Int32) (rf : Int32) (hf : fJ2_indexOf_2 a1 a2 = some rf) : Met l yJ2_indexOf_2 (ws_ yJ2_indexOf_2 cJ2_indexOf_2 3 (some .int)) rJ2_indexOf_2 (va_Pc [.ref z.2.1, .int a1, .int a2] (fun Ux => ZO z A Ux Ux.heap)) (vp_Si (fun y => y = rf)) 0 0 (fun _ => False) := by
  refine sm_st (by decide) ?_
  intro p e s m args below meth c hx hb hr hlocks hml hown hnm hts hv
  obtain ⟨hargs, hZ⟩ := hv
  have hS : va_S A s.heap s.heap [] := va_S.rf
  have hown : s.vm.findClass RJ2 = some m.cls := hown
  refine sm_en _ (Nat.le_of_ble_eq_true rfl) hargs (fun ls hl => ?_)
  have hl : lv_has ls 3 [(0, .ref z.2.1), (1, .int a1), (2, .int a2)] := hl
  generalize hQ : MQ below _ args s _ _ _ = Q
  unfold fJ2_indexOf_2 at hf
  refine lv_aload_n hx hb dJ2_indexOf_2_0 rfl (lv_at hl 0 rfl) ?_
  refine vp_callSi (W.runV (As := []) (rest := []) ⟨hx, hb, hml, hown, hts⟩ (wJ2_isLatin1 l z A  1 rfl) (cwV 0 hts (lw_V q410 q411 q412 q73 q413) rfl rfl rfl (by decide +kernel) ⟨Nat.le_of_ble_eq_true rfl, Nat.le_of_ble_eq_true rfl⟩) (sm_pzV hZ hS) rfl rfl hl.1 rfl (lv_room (Nat.le_of_ble_eq_true rfl)) dJ2_indexOf_2_1 ⟨Nat.le_of_ble_eq_true rfl, Nat.le_of_ble_eq_true rfl⟩) (fun r_2 er_1 => ?_)
  have er_1 := er_1.symm
  subst er_1
  refine lv_if_eq (tgt := 23) hx hb dJ2_indexOf_2_4 (by decide) (fun c_3 => ?_) (fun c_3 => ?_)
  · first | exact absurd c_3 (by decide) | exact absurd (by decide) c_3
  · refine lv_aload_n hx hb dJ2_indexOf_2_7 rfl (lv_at hl 0 rfl) ?_
    refine vk_getf hx hb hZ.value hS hown (hts _ q1282) (fun _ h9 => h9) dJ2_indexOf_2_8 ?_
    refine lv_iload_n hx hb dJ2_indexOf_2_11 rfl (lv_at hl 1 rfl) ?_
    refine lv_iload_n hx hb dJ2_indexOf_2_12 rfl (lv_at hl 2 rfl) ?_
    refine lv_aload_n hx hb dJ2_indexOf_2_13 rfl (lv_at hl 0 rfl) ?_
    refine vp_callSi (W.runV (As := []) (rest := [.int a2, .int a1, .ref z.2.2.1]) ⟨hx, hb, hml, hown, hts⟩ (wJ2_length l z A  (fJ2_length) rfl) (cwV 0 hts (lw_V q416 q417 q418 q73 q419) rfl rfl rfl (by decide +kernel) ⟨Nat.le_of_ble_eq_true rfl, Nat.le_of_ble_eq_true rfl⟩) (sm_pzV hZ hS) rfl rfl hl.1 rfl (lv_room (Nat.le_of_ble_eq_true rfl)) dJ2_indexOf_2_14 ⟨Nat.le_of_ble_eq_true rfl, Nat.le_of_ble_eq_true rfl⟩) (fun r_5 er_4 => ?_)
    have er_4 := er_4.symm
    subst er_4
    obtain ⟨r_6, h_7, hf⟩ := sm_b1_e hf
    refine vp_callSi (W.runS (As := [.ref z.2.2.1, .int a1, .int a2, .int fJ2_length]) (rest := []) ⟨hx, hb, hml, hown, hts⟩ (wJ3_indexOf l z A a1 a2 fJ2_length r_6 h_7) (va_cwS 4 hts (lw_S q424 q425 q74 q426) rfl rfl rfl (by decide +kernel) ⟨Nat.le_of_ble_eq_true rfl, Nat.le_of_ble_eq_true rfl⟩) (sm_pz hZ hS) rfl rfl hl.1 rfl (lv_room (Nat.le_of_ble_eq_true rfl)) dJ2_indexOf_2_17 ⟨Nat.le_of_ble_eq_true rfl, Nat.le_of_ble_eq_true rfl⟩) (fun r_9 er_8 => ?_)
    have er_8 := er_8.symm
    subst er_8
    refine lv_goto (tgt := 36) hx hb dJ2_indexOf_2_20 (by decide) ?_
    have hf := Option.some.inj hf
    rw [← hQ]
    exact W.iret (v := r_6) hx hb hr (fun t ht hW => ⟨_, rfl, hf, ht⟩) (fun _ h => by cases h) dJ2_indexOf_2_36
abbrev rJ2_indexOf : Room := { frames := 3, cells := 0, slots := 0, locals := 85 }
set_option maxHeartbeats 4000000 in
theorem wJ2_indexOf (l : Launch) (z : ZZ) (A : Nat → Prop) (a1 : Int32) (rf : Int32) (hf : fJ2_indexOf a1 = some rf) : Met l yJ2_indexOf (ws_ yJ2_indexOf cJ2_indexOf 2 (some .int)) rJ2_indexOf (va_Pc [.ref z.2.1, .int a1] (fun Ux => ZO z A Ux Ux.heap)) (vp_Si (fun y => y = rf)) 0 0 (fun _ => False) := by
  refine sm_st (by decide) ?_
  intro p e s m args below meth c hx hb hr hlocks hml hown hnm hts hv
  obtain ⟨hargs, hZ⟩ := hv
  have hS : va_S A s.heap s.heap [] := va_S.rf
  have hown : s.vm.findClass RJ2 = some m.cls := hown
  refine sm_en _ (Nat.le_of_ble_eq_true rfl) hargs (fun ls hl => ?_)
  have hl : lv_has ls 2 [(0, .ref z.2.1), (1, .int a1)] := hl
  generalize hQ : MQ below _ args s _ _ _ = Q
  unfold fJ2_indexOf at hf
  refine lv_aload_n hx hb dJ2_indexOf_0 rfl (lv_at hl 0 rfl) ?_
  refine lv_iload_n hx hb dJ2_indexOf_1 rfl (lv_at hl 1 rfl) ?_
  refine lv_iconst (v := 0) hx hb dJ2_indexOf_2 (by decide) ?_
  obtain ⟨r_1, h_2, hf⟩ := sm_b1_e hf
  refine vp_callSi (W.runV (As := [.int a1, .int 0]) (rest := []) ⟨hx, hb, hml, hown, hts⟩ (wJ2_indexOf_2 l z A a1 0 r_1 h_2) (cwV 2 hts (lw_V q406 q407 q408 q73 q409) rfl rfl rfl (by decide +kernel) ⟨Nat.le_of_ble_eq_true rfl, Nat.le_of_ble_eq_true rfl⟩) (sm_pzV hZ hS) rfl rfl hl.1 rfl (lv_room (Nat.le_of_ble_eq_true rfl)) dJ2_indexOf_3 ⟨Nat.le_of_ble_eq_true rfl, Nat.le_of_ble_eq_true rfl⟩) (fun r_4 er_3 => ?_)
  have er_3 := er_3.symm
  subst er_3
  have hf := Option.some.inj hf
  rw [← hQ]
  exact W.iret (v := r_1) hx hb hr (fun t ht hW => ⟨_, rfl, hf, ht⟩) (fun _ h => by cases h) dJ2_indexOf_6
abbrev rX10_here : Room := { frames := 0, cells := 0, slots := 0, locals := 0 }
set_option maxHeartbeats 4000000 in
theorem wX10_here (l : Launch) (g : GG) (rd : Nat) (bk ad : Nat → Nat) (X : XS) (z : ZZ) (A : Nat → Prop) (S : RS) (rf : Int32) (hf : fX10_here X S = some rf) : Met l yX10_here (ws_ yX10_here cX10_here 1 (some .int)) rX10_here (va_Pc [.ref rd] (fun Ux => PP g (WR g rd bk ad X S) Ux.heap ∧ EV g Ux)) (vp_Si (fun y => y = rf)) 0 0 (fun _ => False) := by
  refine sm_st (by decide) ?_
  intro p e s m args below meth c hx hb hr hlocks hml hown hnm hts hv
  obtain ⟨hargs, hP, hE⟩ := hv
  obtain ⟨hK, hN⟩ := id hE
  have hown : s.vm.findClass RX10 = some m.cls := hown
  refine sm_en _ (Nat.le_of_ble_eq_true rfl) hargs (fun ls hl => ?_)
  have hl : lv_has ls 1 [(0, .ref rd)] := hl
  generalize hQ : MQ below _ args s _ _ _ = Q
  unfold fX10_here at hf
  refine lv_aload_n hx hb dX10_here_0 rfl (lv_at hl 0 rfl) ?_
  refine va_get (D := (g.1, g.2.1)) (ci := 10) (v := .int (S.1 0)) (C := RX10) (T := TX10) (N := 7) hx hb hts in_X10 hown hK hP 0 rfl rfl 0 (by decide) (hts _ q363) (fun _ h9 => h9) rfl dX10_here_1 ?_
  refine lv_aload_n hx hb dX10_here_4 rfl (lv_at hl 0 rfl) ?_
  refine va_get (D := (g.1, g.2.1)) (ci := 10) (v := .ref (ad 0)) (C := RX10) (T := TX10) (N := 7) hx hb hts in_X10 hown hK hP 0 rfl rfl 6 (by decide) (hts _ q369) (fun _ h9 => h9) rfl dX10_here_5 ?_
  refine va_getN (D := (g.1, g.2.1)) (ci := 0) (v := .int (X.1 8)) (C := RX0) (T := TX0) (N := 20) hx hb hts in_X0 hown hK hP 8 rfl rfl 8 (by decide) (va_Nw.use rfl (hN _ q279 rfl)) (fun _ h9 => h9) rfl dX10_here_8 ?_
  refine lv_icmp_ge (tgt := 33) hx hb dX10_here_11 (by decide) (fun c_1 => ?_) (fun c_1 => ?_)
  · have hf := (if_pos c_1).symm.trans hf
    refine lv_iconst (v := (-1)) hx hb dX10_here_33 (by decide) ?_
    have hf := Option.some.inj hf
    rw [← hQ]
    exact W.iret (v := (-1)) hx hb hr (fun t ht hW => ⟨_, rfl, hf, ht⟩) (fun _ h => by cases h) dX10_here_34
  · have hf := (if_neg c_1).symm.trans hf
    refine lv_aload_n hx hb dX10_here_14 rfl (lv_at hl 0 rfl) ?_
    refine va_get (D := (g.1, g.2.1)) (ci := 10) (v := .ref (ad 0)) (C := RX10) (T := TX10) (N := 7) hx hb hts in_X10 hown hK hP 0 rfl rfl 6 (by decide) (hts _ q369) (fun _ h9 => h9) rfl dX10_here_15 ?_
    refine va_getN (D := (g.1, g.2.1)) (ci := 0) (v := .ref (ad 9)) (C := RX0) (T := TX0) (N := 20) hx hb hts in_X0 hown hK hP 8 rfl rfl 7 (by decide) (va_Nw.use rfl (hN _ q277 rfl)) (fun _ h9 => h9) rfl dX10_here_18 ?_
    refine lv_aload_n hx hb dX10_here_21 rfl (lv_at hl 0 rfl) ?_
    refine va_get (D := (g.1, g.2.1)) (ci := 10) (v := .int (S.1 0)) (C := RX10) (T := TX10) (N := 7) hx hb hts in_X10 hown hK hP 0 rfl rfl 0 (by decide) (hts _ q363) (fun _ h9 => h9) rfl dX10_here_22 ?_
    obtain ⟨hg, hf⟩ := sm_gd_e hf
    refine va_bald hx hb hK hP 9 1 rfl rfl (sm_in hg) dX10_here_25 ?_
    refine lv_sipush (v := 255) hx hb dX10_here_26 (by decide) ?_
    refine lv_iand hx hb dX10_here_29 ?_
    refine lv_goto (tgt := 34) hx hb dX10_here_30 (by decide) ?_
    have hf := Option.some.inj hf
    rw [← hQ]
    exact W.iret (v := (X.2.1 7 (S.1 0).toNatClampNeg) &&& 255) hx hb hr (fun t ht hW => ⟨_, rfl, hf, ht⟩) (fun _ h => by cases h) dX10_here_34
abbrev rX10_may : Room := { frames := 0, cells := 0, slots := 0, locals := 0 }
set_option maxHeartbeats 4000000 in
theorem wX10_may (l : Launch) (g : GG) (rd : Nat) (bk ad : Nat → Nat) (X : XS) (z : ZZ) (A : Nat → Prop) (S : RS) (a1 : Int32) (rf : Int32) (hf : fX10_may X S a1 = rf) : Met l yX10_may (ws_ yX10_may cX10_may 2 (some .boolean)) rX10_may (va_Pc [.ref rd, .int a1] (fun Ux => PP g (WR g rd bk ad X S) Ux.heap ∧ EV g Ux)) (vp_Si (fun y => y = rf)) 0 0 (fun _ => False) := by
  refine sm_st (by decide) ?_
  intro p e s m args below meth c hx hb hr hlocks hml hown hnm hts hv
  obtain ⟨hargs, hP, hE⟩ := hv
  obtain ⟨hK, hN⟩ := id hE
  have hown : s.vm.findClass RX10 = some m.cls := hown
  refine sm_en _ (Nat.le_of_ble_eq_true rfl) hargs (fun ls hl => ?_)
  have hl : lv_has ls 2 [(0, .ref rd), (1, .int a1)] := hl
  generalize hQ : MQ below _ args s _ _ _ = Q
  unfold fX10_may at hf
  refine lv_iload_n hx hb dX10_may_0 rfl (lv_at hl 1 rfl) ?_
  by_cases c_1_0 : a1 = 3
  · have hf := (if_pos c_1_0).symm.trans hf
    refine lv_lookup (off := 27) (tgt := 28) hx hb dX10_may_1 (by decide) (by rw [c_1_0]; rfl) (by decide) ?_
    refine lv_aload_n hx hb dX10_may_28 rfl (lv_at hl 0 rfl) ?_
    refine va_get (D := (g.1, g.2.1)) (ci := 10) (v := .ref (bk 0)) (C := RX10) (T := TX10) (N := 7) hx hb hts in_X10 hown hK hP 0 rfl rfl 5 (by decide) (hts _ q368) (fun _ h9 => h9) rfl dX10_may_29 ?_
    refine va_getN (D := (g.1, g.2.1)) (ci := 1) (v := .int (S.2.1 6)) (C := RX1) (T := TX1) (N := 9) hx hb hts in_X1 hown hK hP 1 rfl rfl 6 (by decide) (va_Nw.use rfl (hN _ q120 rfl)) (fun _ h9 => h9) rfl dX10_may_32 ?_
    refine lv_bipush (v := 6) hx hb dX10_may_35 (by decide) ?_
    refine lv_icmp_ge (tgt := 44) hx hb dX10_may_37 (by decide) (fun c_2 => ?_) (fun c_2 => ?_)
    · have hf := (if_pos c_2).symm.trans hf
      refine lv_iconst (v := 0) hx hb dX10_may_44 (by decide) ?_
      rw [← hQ]
      exact W.zret (v := 0) hx hb hr rfl (fun t ht hW => ⟨_, rfl, hf, ht⟩) (fun _ h => by cases h) dX10_may_45
    · have hf := (if_neg c_2).symm.trans hf
      refine lv_iconst (v := 1) hx hb dX10_may_40 (by decide) ?_
      refine lv_goto (tgt := 45) hx hb dX10_may_41 (by decide) ?_
      rw [← hQ]
      exact W.zret (v := 1) hx hb hr rfl (fun t ht hW => ⟨_, rfl, hf, ht⟩) (fun _ h => by cases h) dX10_may_45
  have hf := (if_neg c_1_0).symm.trans hf
  by_cases c_1_1 : a1 = 4
  · have hf := (if_pos c_1_1).symm.trans hf
    refine lv_lookup (off := 45) (tgt := 46) hx hb dX10_may_1 (by decide) (by rw [c_1_1]; rfl) (by decide) ?_
    refine lv_aload_n hx hb dX10_may_46 rfl (lv_at hl 0 rfl) ?_
    refine va_get (D := (g.1, g.2.1)) (ci := 10) (v := .ref (bk 0)) (C := RX10) (T := TX10) (N := 7) hx hb hts in_X10 hown hK hP 0 rfl rfl 5 (by decide) (hts _ q368) (fun _ h9 => h9) rfl dX10_may_47 ?_
    refine va_getN (D := (g.1, g.2.1)) (ci := 1) (v := .int (S.2.1 7)) (C := RX1) (T := TX1) (N := 9) hx hb hts in_X1 hown hK hP 1 rfl rfl 7 (by decide) (va_Nw.use rfl (hN _ q123 rfl)) (fun _ h9 => h9) rfl dX10_may_50 ?_
    refine lv_iconst (v := 4) hx hb dX10_may_53 (by decide) ?_
    refine lv_icmp_ge (tgt := 61) hx hb dX10_may_54 (by decide) (fun c_3 => ?_) (fun c_3 => ?_)
    · have hf := (if_pos c_3).symm.trans hf
      refine lv_iconst (v := 0) hx hb dX10_may_61 (by decide) ?_
      rw [← hQ]
      exact W.zret (v := 0) hx hb hr rfl (fun t ht hW => ⟨_, rfl, hf, ht⟩) (fun _ h => by cases h) dX10_may_62
    · have hf := (if_neg c_3).symm.trans hf
      refine lv_iconst (v := 1) hx hb dX10_may_57 (by decide) ?_
      refine lv_goto (tgt := 62) hx hb dX10_may_58 (by decide) ?_
      rw [← hQ]
      exact W.zret (v := 1) hx hb hr rfl (fun t ht hW => ⟨_, rfl, hf, ht⟩) (fun _ h => by cases h) dX10_may_62
  have hf := (if_neg c_1_1).symm.trans hf
  refine lv_lookup (off := 62) (tgt := 63) hx hb dX10_may_1 (by decide) (by show Op.lookupswitch.offset [(3, 27), (4, 45)] 62 _ = _; rw [lv_osw (a := 3) c_1_0 rfl, lv_osw (a := 4) c_1_1 rfl]; rfl) (by decide) ?_
  refine lv_iload_n hx hb dX10_may_63 rfl (lv_at hl 1 rfl) ?_
  refine lv_iconst (v := 2) hx hb dX10_may_64 (by decide) ?_
  refine lv_icmp_gt (tgt := 83) hx hb dX10_may_65 (by decide) (fun c_4 => ?_) (fun c_4 => ?_)
  · have hf := (if_pos c_4).symm.trans hf
    refine lv_iconst (v := 0) hx hb dX10_may_83 (by decide) ?_
    rw [← hQ]
    exact W.zret (v := 0) hx hb hr rfl (fun t ht hW => ⟨_, rfl, hf, ht⟩) (fun _ h => by cases h) dX10_may_84
  · have hf := (if_neg c_4).symm.trans hf
    refine lv_aload_n hx hb dX10_may_68 rfl (lv_at hl 0 rfl) ?_
    refine va_get (D := (g.1, g.2.1)) (ci := 10) (v := .int (S.1 4)) (C := RX10) (T := TX10) (N := 7) hx hb hts in_X10 hown hK hP 0 rfl rfl 4 (by decide) (hts _ q367) (fun _ h9 => h9) rfl dX10_may_69 ?_
    refine lv_iload_n hx hb dX10_may_72 rfl (lv_at hl 1 rfl) ?_
    refine lv_ishr hx hb dX10_may_73 ?_
    refine lv_iconst (v := 1) hx hb dX10_may_74 (by decide) ?_
    refine lv_iand hx hb dX10_may_75 ?_
    refine lv_if_ne (tgt := 83) hx hb dX10_may_76 (by decide) (fun c_5 => ?_) (fun c_5 => ?_)
    · have hf := (if_neg c_5).symm.trans hf
      refine lv_iconst (v := 0) hx hb dX10_may_83 (by decide) ?_
      rw [← hQ]
      exact W.zret (v := 0) hx hb hr rfl (fun t ht hW => ⟨_, rfl, hf, ht⟩) (fun _ h => by cases h) dX10_may_84
    · have hf := (if_pos c_5).symm.trans hf
      refine lv_iconst (v := 1) hx hb dX10_may_79 (by decide) ?_
      refine lv_goto (tgt := 84) hx hb dX10_may_80 (by decide) ?_
      rw [← hQ]
      exact W.zret (v := 1) hx hb hr rfl (fun t ht hW => ⟨_, rfl, hf, ht⟩) (fun _ h => by cases h) dX10_may_84
abbrev rX10_next : Room := { frames := 4, cells := 0, slots := 0, locals := 106 }
set_option maxHeartbeats 4000000 in
theorem wX10_next (l : Launch) (g : GG) (rd : Nat) (bk ad : Nat → Nat) (X : XS) (z : ZZ) (A : Nat → Prop) (S : RS) (Sf : RS) (hf : fX10_next X S = some Sf) : Met l yX10_next (ws_ yX10_next cX10_next 3 none) rX10_next (va_Pc [.ref rd] (fun Ux => PP g (WR g rd bk ad X S) Ux.heap ∧ EV g Ux ∧ va_D A (WR g rd bk ad X S) ∧ (∀ q, Ux.heap.size ≤ q → A q) ∧ ZO z A Ux Ux.heap)) (va_Qv (fun (_ : Unit) => True) (fun _ t => PP g (WR g rd bk ad X Sf) t.heap ∧ va_D A (WR g rd bk ad X Sf)) A) 0 0 A := by
  refine sm_st (by decide) ?_
  intro p e s m args below meth c hx hb hr hlocks hml hown hnm hts hv
  obtain ⟨hargs, hP, hE, hD, hA, hZ⟩ := hv
  obtain ⟨hK, hN⟩ := id hE
  have hS : va_S A s.heap s.heap [] := va_S.rf
  have hown : s.vm.findClass RX10 = some m.cls := hown
  refine sm_en _ (Nat.le_of_ble_eq_true rfl) hargs (fun ls hl => ?_)
  have hl : lv_has ls 3 [(0, .ref rd)] := hl
  generalize hQ : MQ below _ args s _ _ _ = Q
  unfold fX10_next at hf
  have L_7 : ∀ (n : Nat) (S_1 : RS) (o_8 : RS) (H : Heap) (locs : List Loc) (ls : Array Slot), sm_lp (fun q => fX10_next_0 X q) n S_1 = some o_8 → PP g (WR g rd bk ad X S_1) H → va_D A (WR g rd bk ad X S_1) → va_S A s.heap H locs → lv_has ls 3 [(0, .ref rd)] → (∀ (H : Heap) (locs : List Loc) (ls : Array Slot), PP g (WR g rd bk ad X o_8) H → va_D A (WR g rd bk ad X o_8) → va_S A s.heap H locs → lv_has ls 3 [(0, .ref rd)] → W p l e rX10_next s m args below meth c H locs 0 0 Q (F0 m 22 ls [])) → W p l e rX10_next s m args below meth c H locs 0 0 Q (F0 m 0 ls []) := by
    intro n
    induction n with
    | zero =>
      intro _ _ _ _ _ hf
      cases hf
    | succ n ih_2 =>
      intro S_1 o_8 H locs ls hf hP hD hS hl kx_3
      obtain ⟨q, hf, hc_6⟩ := sm_bnd hf
      have hf : fX10_next_0 X S_1 = some q := hf
      unfold fX10_next_0 at hf
      refine lv_aload_n hx hb dX10_next_0 rfl (lv_at hl 0 rfl) ?_
      obtain ⟨r_9, h_10, hf⟩ := sm_b1_e hf
      refine vp_callSi (W.runV (As := []) (rest := []) ⟨hx, hb, hml, hown, hts⟩ (wX10_here l g rd bk ad X z A S_1  r_9 h_10) (cwV 0 hts (lw_V q393 q395 qs1 q71 q396) rfl rfl rfl (by decide +kernel) ⟨Nat.le_of_ble_eq_true rfl, Nat.le_of_ble_eq_true rfl⟩) (sm_pv hE hP (va_recv hK hP (ci := 10) (q0 := 0) rfl rfl)) rfl rfl hl.1 rfl (lv_room (Nat.le_of_ble_eq_true rfl)) dX10_next_1 ⟨Nat.le_of_ble_eq_true rfl, Nat.le_of_ble_eq_true rfl⟩) (fun r_12 er_11 => ?_)
      have er_11 := er_11.symm
      subst er_11
      refine lv_bipush (v := 32) hx hb dX10_next_4 (by decide) ?_
      refine lv_icmp_ne (tgt := 22) hx hb dX10_next_6 (by decide) (fun c_13 => ?_) (fun c_13 => ?_)
      · have hf := (if_neg c_13).symm.trans hf
        cases hf
        have hc_6 : some S_1 = some o_8 := hc_6
        cases hc_6
        exact kx_3 _ _ _ hP hD hS (lv_sub hl [0] rfl)
      · have hf := (if_pos c_13).symm.trans hf
        refine lv_aload_n hx hb dX10_next_9 rfl (lv_at hl 0 rfl) ?_
        refine lv_dup hx hb dX10_next_10 rfl ?_
        refine va_get (D := (g.1, g.2.1)) (ci := 10) (v := .int (S_1.1 0)) (C := RX10) (T := TX10) (N := 7) hx hb hts in_X10 hown hK hP 0 rfl rfl 0 (by decide) (hts _ q363) (fun _ h9 => h9) rfl dX10_next_11 ?_
        refine lv_iconst (v := 1) hx hb dX10_next_14 (by decide) ?_
        refine lv_iadd hx hb dX10_next_15 ?_
        refine va_put (D := (g.1, g.2.1)) (ci := 10) (v := .int ((S_1.1 0) + 1)) (ty := .int) (C := RX10) (T := TX10) (N := 7) hx hb hts in_X10 tyX10 tyX10_ok nmX10 hown hK hP hD hS 0 rfl rfl 0 (by decide) (hts _ q363) (fun _ h9 => h9) rfl (by decide +kernel) rfl rfl (Nat.le_of_ble_eq_true rfl) dX10_next_16 (fun H locs hP hD hS => ?_)
        obtain ⟨S_14, eS_14, hf⟩ := sm_lt_e hf
        have hP : PP g (WR g rd bk ad X S_14) H := by rw [eS_14]; exact prf0 hP
        have hD : va_D A (WR g rd bk ad X S_14) := by rw [eS_14]; exact drf0 hD
        refine lv_goto (tgt := 0) hx hb dX10_next_19 (by decide) ?_
        cases hf
        exact ih_2 _ _ _ _ _ hc_6 hP hD hS (lv_sub hl [0] rfl) kx_3
  obtain ⟨S_16, ho, hf⟩ := sm_b1_e hf
  refine L_7 FU S S_16 s.heap [] ls ho hP hD hS (lv_sub hl [0] rfl) ?_
  intro H locs ls hP hD hS hl
  refine lv_aload_n hx hb dX10_next_22 rfl (lv_at hl 0 rfl) ?_
  refine lv_aload_n hx hb dX10_next_23 rfl (lv_at hl 0 rfl) ?_
  refine va_get (D := (g.1, g.2.1)) (ci := 10) (v := .int (S_16.1 0)) (C := RX10) (T := TX10) (N := 7) hx hb hts in_X10 hown hK hP 0 rfl rfl 0 (by decide) (hts _ q363) (fun _ h9 => h9) rfl dX10_next_24 ?_
  refine va_put (D := (g.1, g.2.1)) (ci := 10) (v := .int (S_16.1 0)) (ty := .int) (C := RX10) (T := TX10) (N := 7) hx hb hts in_X10 tyX10 tyX10_ok nmX10 hown hK hP hD hS 0 rfl rfl 1 (by decide) (hts _ q364) (fun _ h9 => h9) rfl (by decide +kernel) rfl rfl (Nat.le_of_ble_eq_true rfl) dX10_next_27 (fun H locs hP hD hS => ?_)
  obtain ⟨S_17, eS_17, hf⟩ := sm_lt_e hf
  have hP : PP g (WR g rd bk ad X S_17) H := by rw [eS_17]; exact prf1 hP
  have hD : va_D A (WR g rd bk ad X S_17) := by rw [eS_17]; exact drf1 hD
  refine lv_aload_n hx hb dX10_next_30 rfl (lv_at hl 0 rfl) ?_
  refine lv_iconst (v := 0) hx hb dX10_next_31 (by decide) ?_
  refine va_put (D := (g.1, g.2.1)) (ci := 10) (v := .int 0) (ty := .int) (C := RX10) (T := TX10) (N := 7) hx hb hts in_X10 tyX10 tyX10_ok nmX10 hown hK hP hD hS 0 rfl rfl 3 (by decide) (hts _ q366) (fun _ h9 => h9) rfl (by decide +kernel) rfl rfl (Nat.le_of_ble_eq_true rfl) dX10_next_32 (fun H locs hP hD hS => ?_)
  obtain ⟨S_18, eS_18, hf⟩ := sm_lt_e hf
  have hP : PP g (WR g rd bk ad X S_18) H := by rw [eS_18]; exact prf3 hP
  have hD : va_D A (WR g rd bk ad X S_18) := by rw [eS_18]; exact drf3 hD
  refine lv_aload_n hx hb dX10_next_35 rfl (lv_at hl 0 rfl) ?_
  obtain ⟨r_19, h_20, hf⟩ := sm_b1_e hf
  refine vp_callSi (W.runV (As := []) (rest := []) ⟨hx, hb, hml, hown, hts⟩ (wX10_here l g rd bk ad X z A S_18  r_19 h_20) (cwV 0 hts (lw_V q393 q395 qs1 q71 q396) rfl rfl rfl (by decide +kernel) ⟨Nat.le_of_ble_eq_true rfl, Nat.le_of_ble_eq_true rfl⟩) (sm_pv hE hP (va_recv hK hP (ci := 10) (q0 := 0) rfl rfl)) rfl rfl hl.1 rfl (lv_room (Nat.le_of_ble_eq_true rfl)) dX10_next_36 ⟨Nat.le_of_ble_eq_true rfl, Nat.le_of_ble_eq_true rfl⟩) (fun r_22 er_21 => ?_)
  have er_21 := er_21.symm
  subst er_21
  refine lv_istore_n (lv' := [(1, .int r_19), (0, .ref rd)]) hx hb dX10_next_39 rfl hl (by decide) rfl (fun ls hl => ?_)
  refine lv_iload_n hx hb dX10_next_40 rfl (lv_at hl 0 rfl) ?_
  refine lv_if_ge (tgt := 53) hx hb dX10_next_41 (by decide) (fun c_23 => ?_) (fun c_23 => ?_)
  · have hf := (if_pos c_23).symm.trans hf
    refine lv_iload_n hx hb dX10_next_53 rfl (lv_at hl 0 rfl) ?_
    refine lv_bipush (v := 48) hx hb dX10_next_54 (by decide) ?_
    refine lv_bipush (v := 57) hx hb dX10_next_56 (by decide) ?_
    refine vp_callSi (sm_r2c (va_runSN (As := [.int r_19, .int 48, .int 57]) (rest := []) ⟨hx, hb, hml, hown, hts⟩ (wX0_in l r_19 48 57 (fX0_in r_19 48 57) rfl) ⟨va_cnB 3 hts (lw_meth q345) rfl rfl rfl (hN _ q397 rfl) (hts _ q60) (by decide +kernel) ⟨Nat.le_of_ble_eq_true rfl, Nat.le_of_ble_eq_true rfl⟩, hts _ q344, trivial⟩ (sm_ps) rfl rfl hl.1 rfl (lv_room (Nat.le_of_ble_eq_true rfl)) dX10_next_58 ⟨Nat.le_of_ble_eq_true rfl, Nat.le_of_ble_eq_true rfl⟩)) (fun r_25 er_24 => ?_)
    have er_24 := er_24.symm
    subst er_24
    refine lv_if_eq (tgt := 158) hx hb dX10_next_61 (by decide) (fun c_26 => ?_) (fun c_26 => ?_)
    · have hf := (if_pos c_26).symm.trans hf
      refine lv_aload_n hx hb dX10_next_158 rfl (lv_at hl 1 rfl) ?_
      refine lv_dup hx hb dX10_next_159 rfl ?_
      refine va_get (D := (g.1, g.2.1)) (ci := 10) (v := .int (S_18.1 0)) (C := RX10) (T := TX10) (N := 7) hx hb hts in_X10 hown hK hP 0 rfl rfl 0 (by decide) (hts _ q363) (fun _ h9 => h9) rfl dX10_next_160 ?_
      refine lv_iconst (v := 1) hx hb dX10_next_163 (by decide) ?_
      refine lv_iadd hx hb dX10_next_164 ?_
      refine va_put (D := (g.1, g.2.1)) (ci := 10) (v := .int ((S_18.1 0) + 1)) (ty := .int) (C := RX10) (T := TX10) (N := 7) hx hb hts in_X10 tyX10 tyX10_ok nmX10 hown hK hP hD hS 0 rfl rfl 0 (by decide) (hts _ q363) (fun _ h9 => h9) rfl (by decide +kernel) rfl rfl (Nat.le_of_ble_eq_true rfl) dX10_next_165 (fun H locs hP hD hS => ?_)
      obtain ⟨S_27, eS_27, hf⟩ := sm_lt_e hf
      have hP : PP g (WR g rd bk ad X S_27) H := by rw [eS_27]; exact prf0 hP
      have hD : va_D A (WR g rd bk ad X S_27) := by rw [eS_27]; exact drf0 hD
      refine va_ldcS hx hb hown hZ.2.2.2.1 dX10_next_168 ?_
      refine lv_iload_n hx hb dX10_next_170 rfl (lv_at hl 0 rfl) ?_
      obtain ⟨r_28, h_29, hf⟩ := sm_b1_e hf
      refine vp_callSi (W.runV (As := [.int r_19]) (rest := []) ⟨hx, hb, hml, hown, hts⟩ (wJ2_indexOf l z A r_19 r_28 h_29) (cwV 1 hts (lw_V q402 q403 q404 q73 q405) rfl rfl rfl (by decide +kernel) ⟨Nat.le_of_ble_eq_true rfl, Nat.le_of_ble_eq_true rfl⟩) (sm_pzV hZ hS) rfl rfl hl.1 rfl (lv_room (Nat.le_of_ble_eq_true rfl)) dX10_next_171 ⟨Nat.le_of_ble_eq_true rfl, Nat.le_of_ble_eq_true rfl⟩) (fun r_31 er_30 => ?_)
      have er_30 := er_30.symm
      subst er_30
      refine lv_istore_n (lv' := [(2, .int r_28), (1, .int r_19), (0, .ref rd)]) hx hb dX10_next_174 rfl hl (by decide) rfl (fun ls hl => ?_)
      refine lv_aload_n hx hb dX10_next_175 rfl (lv_at hl 2 rfl) ?_
      refine lv_iload_n hx hb dX10_next_176 rfl (lv_at hl 1 rfl) ?_
      refine lv_bipush (v := 59) hx hb dX10_next_177 (by decide) ?_
      obtain ⟨x_32, hf, hf0⟩ := sm_b1_e hf
      suffices hj_33 : ∀ (ls : Array Slot), lv_has ls 3 [(2, .int r_28), (1, .int r_19), (0, .ref rd)] → W p l e rX10_next s m args below meth c H locs 0 0 Q (F0 m 197 ls [.int x_32, .ref rd]) from by
        refine lv_icmp_ne (tgt := 187) hx hb dX10_next_179 (by decide) (fun c_34 => ?_) (fun c_34 => ?_)
        · have hf := (if_neg c_34).symm.trans hf
          refine lv_iload_n hx hb dX10_next_187 rfl (lv_at hl 0 rfl) ?_
          refine lv_if_lt (tgt := 195) hx hb dX10_next_188 (by decide) (fun c_35 => ?_) (fun c_35 => ?_)
          · have hf := (if_pos c_35).symm.trans hf
            refine lv_bipush (v := 8) hx hb dX10_next_195 (by decide) ?_
            cases hf
            exact hj_33 _ (lv_sub hl [0, 1, 2] rfl)
          · have hf := (if_neg c_35).symm.trans hf
            refine lv_iload_n hx hb dX10_next_191 rfl (lv_at hl 0 rfl) ?_
            refine lv_goto (tgt := 197) hx hb dX10_next_192 (by decide) ?_
            cases hf
            exact hj_33 _ (lv_sub hl [0, 1, 2] rfl)
        · have hf := (if_pos c_34).symm.trans hf
          refine lv_bipush (v := 6) hx hb dX10_next_182 (by decide) ?_
          refine lv_goto (tgt := 197) hx hb dX10_next_184 (by decide) ?_
          cases hf
          exact hj_33 _ (lv_sub hl [0, 1, 2] rfl)
      intro ls hl
      have hf := hf0
      refine va_put (D := (g.1, g.2.1)) (ci := 10) (v := .int x_32) (ty := .int) (C := RX10) (T := TX10) (N := 7) hx hb hts in_X10 tyX10 tyX10_ok nmX10 hown hK hP hD hS 0 rfl rfl 2 (by decide) (hts _ q365) (fun _ h9 => h9) rfl (by decide +kernel) rfl rfl (Nat.le_of_ble_eq_true rfl) dX10_next_197 (fun H locs hP hD hS => ?_)
      obtain ⟨S_36, eS_36, hf⟩ := sm_lt_e hf
      have hP : PP g (WR g rd bk ad X S_36) H := by rw [eS_36]; exact prf2 hP
      have hD : va_D A (WR g rd bk ad X S_36) := by rw [eS_36]; exact drf2 hD
      have hf := Option.some.inj hf
      rw [← hQ]
      exact W.vret hx hb hr (fun t ht hW => ⟨⟨(), rfl, trivial, by rw [ht, ← hf]; exact hP, by rw [← hf]; exact hD⟩, hS.F ht⟩) hS.2.2 dX10_next_200
    · have hf := (if_neg c_26).symm.trans hf
      have L_43 : ∀ (n : Nat) (S_37 : RS) (o_44 : RS) (H : Heap) (locs : List Loc) (ls : Array Slot), sm_lp (fun q => fX10_next_64 X q) n S_37 = some o_44 → PP g (WR g rd bk ad X S_37) H → va_D A (WR g rd bk ad X S_37) → va_S A s.heap H locs → lv_has ls 3 [(1, .int r_19), (0, .ref rd)] → (∀ (H : Heap) (locs : List Loc) (ls : Array Slot), PP g (WR g rd bk ad X o_44) H → va_D A (WR g rd bk ad X o_44) → va_S A s.heap H locs → lv_has ls 3 [(1, .int r_19), (0, .ref rd)] → W p l e rX10_next s m args below meth c H locs 0 0 Q (F0 m 116 ls [])) → W p l e rX10_next s m args below meth c H locs 0 0 Q (F0 m 64 ls []) := by
        intro n
        induction n with
        | zero =>
          intro _ _ _ _ _ hf
          cases hf
        | succ n ih_38 =>
          intro S_37 o_44 H locs ls hf hP hD hS hl kx_39
          obtain ⟨q, hf, hc_42⟩ := sm_bnd hf
          have hf : fX10_next_64 X S_37 = some q := hf
          unfold fX10_next_64 at hf
          refine lv_aload_n hx hb dX10_next_64 rfl (lv_at hl 1 rfl) ?_
          obtain ⟨r_45, h_46, hf⟩ := sm_b1_e hf
          refine vp_callSi (W.runV (As := []) (rest := []) ⟨hx, hb, hml, hown, hts⟩ (wX10_here l g rd bk ad X z A S_37  r_45 h_46) (cwV 0 hts (lw_V q393 q395 qs1 q71 q396) rfl rfl rfl (by decide +kernel) ⟨Nat.le_of_ble_eq_true rfl, Nat.le_of_ble_eq_true rfl⟩) (sm_pv hE hP (va_recv hK hP (ci := 10) (q0 := 0) rfl rfl)) rfl rfl hl.1 rfl (lv_room (Nat.le_of_ble_eq_true rfl)) dX10_next_65 ⟨Nat.le_of_ble_eq_true rfl, Nat.le_of_ble_eq_true rfl⟩) (fun r_48 er_47 => ?_)
          have er_47 := er_47.symm
          subst er_47
          refine lv_bipush (v := 48) hx hb dX10_next_68 (by decide) ?_
          refine lv_bipush (v := 57) hx hb dX10_next_70 (by decide) ?_
          refine vp_callSi (sm_r2c (va_runSN (As := [.int r_45, .int 48, .int 57]) (rest := []) ⟨hx, hb, hml, hown, hts⟩ (wX0_in l r_45 48 57 (fX0_in r_45 48 57) rfl) ⟨va_cnB 3 hts (lw_meth q345) rfl rfl rfl (hN _ q397 rfl) (hts _ q60) (by decide +kernel) ⟨Nat.le_of_ble_eq_true rfl, Nat.le_of_ble_eq_true rfl⟩, hts _ q344, trivial⟩ (sm_ps) rfl rfl hl.1 rfl (lv_room (Nat.le_of_ble_eq_true rfl)) dX10_next_72 ⟨Nat.le_of_ble_eq_true rfl, Nat.le_of_ble_eq_true rfl⟩)) (fun r_50 er_49 => ?_)
          have er_49 := er_49.symm
          subst er_49
          refine lv_if_eq (tgt := 116) hx hb dX10_next_75 (by decide) (fun c_51 => ?_) (fun c_51 => ?_)
          · have hf := (if_pos c_51).symm.trans hf
            cases hf
            have hc_42 : some S_37 = some o_44 := hc_42
            cases hc_42
            exact kx_39 _ _ _ hP hD hS (lv_sub hl [0, 1] rfl)
          · have hf := (if_neg c_51).symm.trans hf
            refine lv_aload_n hx hb dX10_next_78 rfl (lv_at hl 1 rfl) ?_
            refine lv_sipush (v := 1024) hx hb dX10_next_79 (by decide) ?_
            refine lv_bipush (v := 10) hx hb dX10_next_82 (by decide) ?_
            refine lv_aload_n hx hb dX10_next_84 rfl (lv_at hl 1 rfl) ?_
            refine va_get (D := (g.1, g.2.1)) (ci := 10) (v := .int (S_37.1 3)) (C := RX10) (T := TX10) (N := 7) hx hb hts in_X10 hown hK hP 0 rfl rfl 3 (by decide) (hts _ q366) (fun _ h9 => h9) rfl dX10_next_85 ?_
            refine lv_imul hx hb dX10_next_88 ?_
            refine lv_aload_n hx hb dX10_next_89 rfl (lv_at hl 1 rfl) ?_
            obtain ⟨r_52, h_53, hf⟩ := sm_b1_e hf
            refine vp_callSi (W.runV (As := []) (rest := [.int (10 * (S_37.1 3)), .int 1024, .ref rd]) ⟨hx, hb, hml, hown, hts⟩ (wX10_here l g rd bk ad X z A S_37  r_52 h_53) (cwV 0 hts (lw_V q393 q395 qs1 q71 q396) rfl rfl rfl (by decide +kernel) ⟨Nat.le_of_ble_eq_true rfl, Nat.le_of_ble_eq_true rfl⟩) (sm_pv hE hP (va_recv hK hP (ci := 10) (q0 := 0) rfl rfl)) rfl rfl hl.1 rfl (lv_room (Nat.le_of_ble_eq_true rfl)) dX10_next_90 ⟨Nat.le_of_ble_eq_true rfl, Nat.le_of_ble_eq_true rfl⟩) (fun r_55 er_54 => ?_)
            have er_54 := er_54.symm
            subst er_54
            refine lv_iadd hx hb dX10_next_93 ?_
            refine lv_bipush (v := 48) hx hb dX10_next_94 (by decide) ?_
            refine lv_isub hx hb dX10_next_96 ?_
            refine va_mmin hx hb (hml.trans hl.1.symm) hown (hts _ q398) (hts _ q399) (hts _ q72) (hts _ q400) (Nat.le_of_ble_eq_true rfl) (Nat.le_of_ble_eq_true rfl) (Nat.le_of_ble_eq_true rfl) (Nat.le_of_ble_eq_true rfl) dX10_next_97 ?_
            refine va_put (D := (g.1, g.2.1)) (ci := 10) (v := .int (if (((10 * (S_37.1 3)) + r_52) - 48) < 1024 then (((10 * (S_37.1 3)) + r_52) - 48) else 1024)) (ty := .int) (C := RX10) (T := TX10) (N := 7) hx hb hts in_X10 tyX10 tyX10_ok nmX10 hown hK hP hD hS 0 rfl rfl 3 (by decide) (hts _ q366) (fun _ h9 => h9) rfl (by decide +kernel) rfl rfl (Nat.le_of_ble_eq_true rfl) dX10_next_100 (fun H locs hP hD hS => ?_)
            obtain ⟨S_56, eS_56, hf⟩ := sm_lt_e hf
            have hP : PP g (WR g rd bk ad X S_56) H := by rw [eS_56]; exact prf3 hP
            have hD : va_D A (WR g rd bk ad X S_56) := by rw [eS_56]; exact drf3 hD
            refine lv_aload_n hx hb dX10_next_103 rfl (lv_at hl 1 rfl) ?_
            refine lv_dup hx hb dX10_next_104 rfl ?_
            refine va_get (D := (g.1, g.2.1)) (ci := 10) (v := .int (S_56.1 0)) (C := RX10) (T := TX10) (N := 7) hx hb hts in_X10 hown hK hP 0 rfl rfl 0 (by decide) (hts _ q363) (fun _ h9 => h9) rfl dX10_next_105 ?_
            refine lv_iconst (v := 1) hx hb dX10_next_108 (by decide) ?_
            refine lv_iadd hx hb dX10_next_109 ?_
            refine va_put (D := (g.1, g.2.1)) (ci := 10) (v := .int ((S_56.1 0) + 1)) (ty := .int) (C := RX10) (T := TX10) (N := 7) hx hb hts in_X10 tyX10 tyX10_ok nmX10 hown hK hP hD hS 0 rfl rfl 0 (by decide) (hts _ q363) (fun _ h9 => h9) rfl (by decide +kernel) rfl rfl (Nat.le_of_ble_eq_true rfl) dX10_next_110 (fun H locs hP hD hS => ?_)
            obtain ⟨S_57, eS_57, hf⟩ := sm_lt_e hf
            have hP : PP g (WR g rd bk ad X S_57) H := by rw [eS_57]; exact prf0 hP
            have hD : va_D A (WR g rd bk ad X S_57) := by rw [eS_57]; exact drf0 hD
            refine lv_goto (tgt := 64) hx hb dX10_next_113 (by decide) ?_
            cases hf
            exact ih_38 _ _ _ _ _ hc_42 hP hD hS (lv_sub hl [0, 1] rfl) kx_39
      obtain ⟨S_59, ho, hf⟩ := sm_b1_e hf
      refine L_43 FU S_18 S_59 H locs ls ho hP hD hS (lv_sub hl [0, 1] rfl) ?_
      intro H locs ls hP hD hS hl
      refine lv_aload_n hx hb dX10_next_116 rfl (lv_at hl 1 rfl) ?_
      refine lv_aload_n hx hb dX10_next_117 rfl (lv_at hl 1 rfl) ?_
      refine va_get (D := (g.1, g.2.1)) (ci := 10) (v := .int (S_59.1 3)) (C := RX10) (T := TX10) (N := 7) hx hb hts in_X10 hown hK hP 0 rfl rfl 3 (by decide) (hts _ q366) (fun _ h9 => h9) rfl dX10_next_118 ?_
      refine lv_sipush (v := 1023) hx hb dX10_next_121 (by decide) ?_
      obtain ⟨x_60, hf, hf0⟩ := sm_b1_e hf
      suffices hj_61 : ∀ (ls : Array Slot), lv_has ls 3 [(1, .int r_19), (0, .ref rd)] → W p l e rX10_next s m args below meth c H locs 0 0 Q (F0 m 152 ls [.int x_60, .ref rd]) from by
        refine lv_icmp_gt (tgt := 146) hx hb dX10_next_124 (by decide) (fun c_62 => ?_) (fun c_62 => ?_)
        · have hf := (if_pos c_62).symm.trans hf
          refine lv_bipush (v := 8) hx hb dX10_next_146 (by decide) ?_
          refine lv_goto (tgt := 152) hx hb dX10_next_148 (by decide) ?_
          cases hf
          exact hj_61 _ (lv_sub hl [0, 1] rfl)
        · have hf := (if_neg c_62).symm.trans hf
          refine lv_iload_n hx hb dX10_next_127 rfl (lv_at hl 0 rfl) ?_
          refine lv_bipush (v := 48) hx hb dX10_next_128 (by decide) ?_
          refine lv_icmp_ne (tgt := 151) hx hb dX10_next_130 (by decide) (fun c_63 => ?_) (fun c_63 => ?_)
          · have hf := (if_neg c_63).symm.trans hf
            refine lv_iconst (v := 5) hx hb dX10_next_151 (by decide) ?_
            cases hf
            exact hj_61 _ (lv_sub hl [0, 1] rfl)
          · have hf := (if_pos c_63).symm.trans hf
            refine lv_aload_n hx hb dX10_next_133 rfl (lv_at hl 1 rfl) ?_
            refine va_get (D := (g.1, g.2.1)) (ci := 10) (v := .int (S_59.1 0)) (C := RX10) (T := TX10) (N := 7) hx hb hts in_X10 hown hK hP 0 rfl rfl 0 (by decide) (hts _ q363) (fun _ h9 => h9) rfl dX10_next_134 ?_
            refine lv_aload_n hx hb dX10_next_137 rfl (lv_at hl 1 rfl) ?_
            refine va_get (D := (g.1, g.2.1)) (ci := 10) (v := .int (S_59.1 1)) (C := RX10) (T := TX10) (N := 7) hx hb hts in_X10 hown hK hP 0 rfl rfl 1 (by decide) (hts _ q364) (fun _ h9 => h9) rfl dX10_next_138 ?_
            refine lv_isub hx hb dX10_next_141 ?_
            refine lv_iconst (v := 1) hx hb dX10_next_142 (by decide) ?_
            refine lv_icmp_le (tgt := 151) hx hb dX10_next_143 (by decide) (fun c_64 => ?_) (fun c_64 => ?_)
            · have hf := (if_pos c_64).symm.trans hf
              refine lv_iconst (v := 5) hx hb dX10_next_151 (by decide) ?_
              cases hf
              exact hj_61 _ (lv_sub hl [0, 1] rfl)
            · have hf := (if_neg c_64).symm.trans hf
              refine lv_bipush (v := 8) hx hb dX10_next_146 (by decide) ?_
              refine lv_goto (tgt := 152) hx hb dX10_next_148 (by decide) ?_
              cases hf
              exact hj_61 _ (lv_sub hl [0, 1] rfl)
      intro ls hl
      have hf := hf0
      refine va_put (D := (g.1, g.2.1)) (ci := 10) (v := .int x_60) (ty := .int) (C := RX10) (T := TX10) (N := 7) hx hb hts in_X10 tyX10 tyX10_ok nmX10 hown hK hP hD hS 0 rfl rfl 2 (by decide) (hts _ q365) (fun _ h9 => h9) rfl (by decide +kernel) rfl rfl (Nat.le_of_ble_eq_true rfl) dX10_next_152 (fun H locs hP hD hS => ?_)
      obtain ⟨S_65, eS_65, hf⟩ := sm_lt_e hf
      have hP : PP g (WR g rd bk ad X S_65) H := by rw [eS_65]; exact prf2 hP
      have hD : va_D A (WR g rd bk ad X S_65) := by rw [eS_65]; exact drf2 hD
      refine lv_goto (tgt := 200) hx hb dX10_next_155 (by decide) ?_
      have hf := Option.some.inj hf
      rw [← hQ]
      exact W.vret hx hb hr (fun t ht hW => ⟨⟨(), rfl, trivial, by rw [ht, ← hf]; exact hP, by rw [← hf]; exact hD⟩, hS.F ht⟩) hS.2.2 dX10_next_200
  · have hf := (if_neg c_23).symm.trans hf
    refine lv_aload_n hx hb dX10_next_44 rfl (lv_at hl 1 rfl) ?_
    refine lv_bipush (v := 7) hx hb dX10_next_45 (by decide) ?_
    refine va_put (D := (g.1, g.2.1)) (ci := 10) (v := .int 7) (ty := .int) (C := RX10) (T := TX10) (N := 7) hx hb hts in_X10 tyX10 tyX10_ok nmX10 hown hK hP hD hS 0 rfl rfl 2 (by decide) (hts _ q365) (fun _ h9 => h9) rfl (by decide +kernel) rfl rfl (Nat.le_of_ble_eq_true rfl) dX10_next_47 (fun H locs hP hD hS => ?_)
    obtain ⟨S_66, eS_66, hf⟩ := sm_lt_e hf
    have hP : PP g (WR g rd bk ad X S_66) H := by rw [eS_66]; exact prf2 hP
    have hD : va_D A (WR g rd bk ad X S_66) := by rw [eS_66]; exact drf2 hD
    refine lv_goto (tgt := 200) hx hb dX10_next_50 (by decide) ?_
    have hf := Option.some.inj hf
    rw [← hQ]
    exact W.vret hx hb hr (fun t ht hW => ⟨⟨(), rfl, trivial, by rw [ht, ← hf]; exact hP, by rw [← hf]; exact hD⟩, hS.F ht⟩) hS.2.2 dX10_next_200
abbrev rX10_due : Int32 ⊕ Int32 → Room := sm_rB 5 240
set_option maxHeartbeats 4000000 in
theorem wX10_due (l : Launch) (g : GG) (rd : Nat) (bk ad : Nat → Nat) (X : XS) (z : ZZ) (A : Nat → Prop) (S : RS) (a1 : Int32) (Sf : RS) (of : Int32 ⊕ Int32) (hf : fX10_due X S a1 = some (Sf, of)) : sm_MB l yX10_due (ws_ yX10_due cX10_due 3 (some .int)) rX10_due (va_Pc [.ref rd, .int a1] (fun Ux => PP g (WR g rd bk ad X S) Ux.heap ∧ EV g Ux ∧ va_D A (WR g rd bk ad X S) ∧ (∀ q, Ux.heap.size ≤ q → A q) ∧ ZO z A Ux Ux.heap)) of (fun (r : Int32) => va_Qi (fun y (_ : Unit) => y = r) (fun _ t => PP g (WR g rd bk ad X Sf) t.heap ∧ va_D A (WR g rd bk ad X Sf)) A) (fun x => sm_Xt (PTr g rd bk ad X Sf x) A) A := by
  refine sm_stB (by decide) ?_
  intro p e s m args below meth c hx hb hr hlocks hml hown hnm hts hnh hv
  obtain ⟨hargs, hP, hE, hD, hA, hZ⟩ := hv
  obtain ⟨hK, hN⟩ := id hE
  have hS : va_S A s.heap s.heap [] := va_S.rf
  have hown : s.vm.findClass RX10 = some m.cls := hown
  refine sm_en _ (Nat.le_of_ble_eq_true rfl) hargs (fun ls hl => ?_)
  have hl : lv_has ls 3 [(0, .ref rd), (1, .int a1)] := hl
  generalize hQ : sm_QB below args s of _ _ _ = Q
  unfold fX10_due at hf
  refine lv_iload_n hx hb dX10_due_0 rfl (lv_at hl 1 rfl) ?_
  refine lv_if_ne (tgt := 16) hx hb dX10_due_1 (by decide) (fun c_1 => ?_) (fun c_1 => ?_)
  · have hf := (if_neg c_1).symm.trans hf
    refine lv_aload_n hx hb dX10_due_16 rfl (lv_at hl 0 rfl) ?_
    refine va_get (D := (g.1, g.2.1)) (ci := 10) (v := .int (S.1 3)) (C := RX10) (T := TX10) (N := 7) hx hb hts in_X10 hown hK hP 0 rfl rfl 3 (by decide) (hts _ q366) (fun _ h9 => h9) rfl dX10_due_17 ?_
    refine lv_istore_n (lv' := [(2, .int (S.1 3)), (0, .ref rd), (1, .int a1)]) hx hb dX10_due_20 rfl hl (by decide) rfl (fun ls hl => ?_)
    refine lv_aload_n hx hb dX10_due_21 rfl (lv_at hl 1 rfl) ?_
    obtain ⟨S_2, h_3, hf⟩ := sm_b1_e hf
    refine va_callv (va_runV (As := []) (rest := []) ⟨hx, hb, hml, hown, hts⟩ (wX10_next l g rd bk ad X z A S  S_2 h_3) (cwV 0 hts (lw_V q389 q391 qs0 q71 q392) rfl rfl rfl (by decide +kernel) ⟨Nat.le_of_ble_eq_true rfl, Nat.le_of_ble_eq_true rfl⟩) (sm_pr hE hS hP hD hA hZ (va_recv hK hP (ci := 10) (q0 := 0) rfl rfl)) rfl rfl hl.1 rfl (lv_room (Nat.le_of_ble_eq_true rfl)) dX10_due_22 ⟨Nat.le_of_ble_eq_true rfl, Nat.le_of_ble_eq_true rfl⟩) hS (fun _ _ h => h) (fun _ h => h) (fun u t H locs ht hvm er_4 hB hz hk hS => ?_)
    obtain ⟨hP, hD⟩ := hB
    rw [ht] at hP
    refine lv_iload_n hx hb dX10_due_25 rfl (lv_at hl 0 rfl) ?_
    have hf := Option.some.inj hf
    cases hf
    rw [← hQ]
    exact W.iret (v := S.1 3) hx hb hr (fun t ht hW => ⟨⟨_, (), rfl, rfl, by rw [ht]; exact hP, hD⟩, hS.F ht⟩) hS.2.2 dX10_due_26
  · have hf := (if_pos c_1).symm.trans hf
    have hf := Option.some.inj hf
    cases hf
    rw [← hQ]
    refine va_new (D := (g.1, g.2.1)) (ci := 11) (fs := [.null, .null, .null, .null, .null, .int 0, .int 0]) (C := RX11) (T := TX11) (N := 7) hx hb hts in_X11 tyX11 tyX11_ok hown (hts _ q494) (hts _ q495) (hts _ q81) hK hP hD hS hA rfl sm_wrong0 (Nat.le_of_ble_eq_true rfl) (Nat.le_of_ble_eq_true rfl) dX10_due_4 (fun w H hP hD hS => ?_)
    refine lv_dup hx hb dX10_due_7 rfl ?_
    refine lv_aload_n hx hb dX10_due_8 rfl (lv_at hl 0 rfl) ?_
    have hP0 := (sm_Papp.mp hP).1
    refine va_get (D := (g.1, g.2.1)) (ci := 10) (v := .int (S.1 1)) (C := RX10) (T := TX10) (N := 7) hx hb hts in_X10 hown hK hP0 0 rfl rfl 1 (by decide) (hts _ q364) (fun _ h9 => h9) rfl dX10_due_9 ?_
    refine va_callv (va_runI (As := [.int (S.1 1)]) (rest := [.ref w]) ⟨hx, hb, hml, hown, hts⟩ (wX11_init l g w z (S.1 1)) (cwI 1 hts (lw_meth q535) rfl rfl rfl (hts _ q81) (hts _ q533) (hts _ q534) rfl (by decide +kernel) ⟨Nat.le_of_ble_eq_true rfl, Nat.le_of_ble_eq_true rfl⟩) (sm_pw hE hS hZ (sm_Papp.mp hP).2 (sm_wA hD)) rfl rfl hl.1 rfl (lv_room (Nat.le_of_ble_eq_true rfl)) dX10_due_12 ⟨Nat.le_of_ble_eq_true rfl, Nat.le_of_ble_eq_true rfl⟩) hS (fun q _ h => by cases h; exact sm_wA hD) (fun q h => by cases h; exact sm_wA hD) (fun u t H locs ht hvm er hB hz hk hS => ?_)
    rw [ht] at hB
    exact sm_athrow (PT := PTr g rd bk ad X S (S.1 1)) hx hb hS hnh hlocks dX10_due_15 ⟨sm_wkeep hP hD hk, hB.1⟩
abbrev rX10_number : Int32 ⊕ Int32 → Room := sm_rB 6 262
set_option maxHeartbeats 4000000 in
theorem wX10_number (l : Launch) (g : GG) (rd : Nat) (bk ad : Nat → Nat) (X : XS) (z : ZZ) (A : Nat → Prop) (S : RS) (a1 : Int32) (a2 : Int32) (Sf : RS) (of : Int32 ⊕ Int32) (hf : fX10_number X S a1 a2 = some (Sf, of)) : sm_MB l yX10_number (ws_ yX10_number cX10_number 3 (some .int)) rX10_number (va_Pc [.ref rd, .int a1, .int a2] (fun Ux => PP g (WR g rd bk ad X S) Ux.heap ∧ EV g Ux ∧ va_D A (WR g rd bk ad X S) ∧ (∀ q, Ux.heap.size ≤ q → A q) ∧ ZO z A Ux Ux.heap)) of (fun (r : Int32) => va_Qi (fun y (_ : Unit) => y = r) (fun _ t => PP g (WR g rd bk ad X Sf) t.heap ∧ va_D A (WR g rd bk ad X Sf)) A) (fun x => sm_Xt (PTr g rd bk ad X Sf x) A) A := by
  refine sm_stB (by decide) ?_
  intro p e s m args below meth c hx hb hr hlocks hml hown hnm hts hnh hv
  obtain ⟨hargs, hP, hE, hD, hA, hZ⟩ := hv
  obtain ⟨hK, hN⟩ := id hE
  have hS : va_S A s.heap s.heap [] := va_S.rf
  have hown : s.vm.findClass RX10 = some m.cls := hown
  refine sm_en _ (Nat.le_of_ble_eq_true rfl) hargs (fun ls hl => ?_)
  have hl : lv_has ls 3 [(0, .ref rd), (1, .int a1), (2, .int a2)] := hl
  generalize hQ : sm_QB below args s of _ _ _ = Q
  unfold fX10_number at hf
  refine lv_aload_n hx hb dX10_number_0 rfl (lv_at hl 0 rfl) ?_
  refine lv_aload_n hx hb dX10_number_1 rfl (lv_at hl 0 rfl) ?_
  refine va_get (D := (g.1, g.2.1)) (ci := 10) (v := .int (S.1 2)) (C := RX10) (T := TX10) (N := 7) hx hb hts in_X10 hown hK hP 0 rfl rfl 2 (by decide) (hts _ q365) (fun _ h9 => h9) rfl dX10_number_2 ?_
  refine lv_iconst (v := 5) hx hb dX10_number_5 (by decide) ?_
  obtain ⟨x_1, hf, hf0⟩ := sm_b1_e hf
  suffices hj_2 : ∀ (ls : Array Slot), lv_has ls 3 [(0, .ref rd), (1, .int a1), (2, .int a2)] → W p l e (rX10_number of) s m args below meth c s.heap [] 0 0 Q (F0 m 26 ls [.int x_1, .ref rd]) from by
    refine lv_icmp_ne (tgt := 25) hx hb dX10_number_6 (by decide) (fun c_3 => ?_) (fun c_3 => ?_)
    · have hf := (if_neg c_3).symm.trans hf
      refine lv_iconst (v := 0) hx hb dX10_number_25 (by decide) ?_
      cases hf
      exact hj_2 _ (lv_sub hl [0, 1, 2] rfl)
    · have hf := (if_pos c_3).symm.trans hf
      refine lv_aload_n hx hb dX10_number_9 rfl (lv_at hl 0 rfl) ?_
      refine va_get (D := (g.1, g.2.1)) (ci := 10) (v := .int (S.1 3)) (C := RX10) (T := TX10) (N := 7) hx hb hts in_X10 hown hK hP 0 rfl rfl 3 (by decide) (hts _ q366) (fun _ h9 => h9) rfl dX10_number_10 ?_
      refine lv_iload_n hx hb dX10_number_13 rfl (lv_at hl 1 rfl) ?_
      refine lv_iload_n hx hb dX10_number_14 rfl (lv_at hl 2 rfl) ?_
      refine vp_callSi (sm_r2c (va_runSN (As := [.int (S.1 3), .int a1, .int a2]) (rest := [.ref rd]) ⟨hx, hb, hml, hown, hts⟩ (wX0_in l (S.1 3) a1 a2 (fX0_in (S.1 3) a1 a2) rfl) ⟨va_cnB 3 hts (lw_meth q345) rfl rfl rfl (hN _ q397 rfl) (hts _ q60) (by decide +kernel) ⟨Nat.le_of_ble_eq_true rfl, Nat.le_of_ble_eq_true rfl⟩, hts _ q344, trivial⟩ (sm_ps) rfl rfl hl.1 rfl (lv_room (Nat.le_of_ble_eq_true rfl)) dX10_number_15 ⟨Nat.le_of_ble_eq_true rfl, Nat.le_of_ble_eq_true rfl⟩)) (fun r_5 er_4 => ?_)
      have er_4 := er_4.symm
      subst er_4
      refine lv_if_eq (tgt := 25) hx hb dX10_number_18 (by decide) (fun c_6 => ?_) (fun c_6 => ?_)
      · have hf := (if_pos c_6).symm.trans hf
        refine lv_iconst (v := 0) hx hb dX10_number_25 (by decide) ?_
        cases hf
        exact hj_2 _ (lv_sub hl [0, 1, 2] rfl)
      · have hf := (if_neg c_6).symm.trans hf
        refine lv_iconst (v := 1) hx hb dX10_number_21 (by decide) ?_
        refine lv_goto (tgt := 26) hx hb dX10_number_22 (by decide) ?_
        cases hf
        exact hj_2 _ (lv_sub hl [0, 1, 2] rfl)
  intro ls hl
  have hf := hf0
  obtain ⟨S_7, o_8, h_9, hf⟩ := sm_t_e hf
  rcases o_8 with r_10 | x_11
  rotate_left
  · dsimp only [Sum.elim_inr] at hf
    have hf := Option.some.inj hf
    cases hf
    rw [← hQ]
    exact sm_throwOut (sm_runTV (As := [.int x_1]) (rest := []) ⟨hx, hb, hml, hown, hts⟩ (wX10_due l g rd bk ad X z A S x_1 _ (Sum.inr x_11) h_9) (cwV 1 hts (lw_V q490 q492 qs3 q71 q493) rfl rfl rfl (by decide +kernel) ⟨Nat.le_of_ble_eq_true rfl, Nat.le_of_ble_eq_true rfl⟩) (sm_pr hE hS hP hD hA hZ (va_recv hK hP (ci := 10) (q0 := 0) rfl rfl)) rfl rfl hl.1 rfl (lv_room (Nat.le_of_ble_eq_true rfl)) dX10_number_26 ⟨Nat.le_of_ble_eq_true rfl, Nat.le_of_ble_eq_true rfl⟩) hS hnh hlocks (fun _ _ _ h => h)
  dsimp only [Sum.elim_inl] at hf
  refine va_calli (va_runV (As := [.int x_1]) (rest := []) ⟨hx, hb, hml, hown, hts⟩ (wX10_due l g rd bk ad X z A S x_1 S_7 (Sum.inl r_10) h_9) (cwV 1 hts (lw_V q490 q492 qs3 q71 q493) rfl rfl rfl (by decide +kernel) ⟨Nat.le_of_ble_eq_true rfl, Nat.le_of_ble_eq_true rfl⟩) (sm_pr hE hS hP hD hA hZ (va_recv hK hP (ci := 10) (q0 := 0) rfl rfl)) rfl rfl hl.1 rfl (lv_room (Nat.le_of_ble_eq_true rfl)) dX10_number_26 ⟨Nat.le_of_ble_eq_true rfl, Nat.le_of_ble_eq_true rfl⟩) hS (fun _ _ h => h) (fun _ h => h) (fun r_13 u t H locs ht hvm er_12 hB hz hk hS => ?_)
  have er_12 := er_12.symm
  subst er_12
  obtain ⟨hP, hD⟩ := hB
  rw [ht] at hP
  have hf := Option.some.inj hf
  cases hf
  rw [← hQ]
  exact W.iret (v := r_10) hx hb hr (fun t ht hW => ⟨⟨_, (), rfl, rfl, by rw [ht]; exact hP, hD⟩, hS.F ht⟩) hS.2.2 dX10_number_29
abbrev rX10_item : Unit ⊕ Int32 → Room := sm_rB 7 284
set_option maxHeartbeats 4000000 in
theorem wX10_item (l : Launch) (g : GG) (rd : Nat) (bk ad : Nat → Nat) (X : XS) (z : ZZ) (A : Nat → Prop) (S : RS) (a1 : Int32) (Sf : RS) (of : Unit ⊕ Int32) (hf : fX10_item X S a1 = some (Sf, of)) : sm_MB l yX10_item (ws_ yX10_item cX10_item 3 none) rX10_item (va_Pc [.ref rd, .int a1] (fun Ux => PP g (WR g rd bk ad X S) Ux.heap ∧ EV g Ux ∧ va_D A (WR g rd bk ad X S) ∧ (∀ q, Ux.heap.size ≤ q → A q) ∧ ZO z A Ux Ux.heap)) of (fun (_ : Unit) => va_Qv (fun (_ : Unit) => True) (fun _ t => PP g (WR g rd bk ad X Sf) t.heap ∧ va_D A (WR g rd bk ad X Sf)) A) (fun x => sm_Xt (PTr g rd bk ad X Sf x) A) A := by
  refine sm_stB (by decide) ?_
  intro p e s m args below meth c hx hb hr hlocks hml hown hnm hts hnh hv
  obtain ⟨hargs, hP, hE, hD, hA, hZ⟩ := hv
  obtain ⟨hK, hN⟩ := id hE
  have hS : va_S A s.heap s.heap [] := va_S.rf
  have hown : s.vm.findClass RX10 = some m.cls := hown
  refine sm_en _ (Nat.le_of_ble_eq_true rfl) hargs (fun ls hl => ?_)
  have hl : lv_has ls 3 [(0, .ref rd), (1, .int a1)] := hl
  generalize hQ : sm_QB below args s of _ _ _ = Q
  unfold fX10_item at hf
  refine lv_iload_n hx hb dX10_item_0 rfl (lv_at hl 1 rfl) ?_
  by_cases c_1_0 : a1 = 3
  · have hf := (if_pos c_1_0).symm.trans hf
    refine lv_lookup (off := 27) (tgt := 28) hx hb dX10_item_1 (by decide) (by rw [c_1_0]; rfl) (by decide) ?_
    refine lv_aload_n hx hb dX10_item_28 rfl (lv_at hl 0 rfl) ?_
    refine va_get (D := (g.1, g.2.1)) (ci := 10) (v := .ref (bk 0)) (C := RX10) (T := TX10) (N := 7) hx hb hts in_X10 hown hK hP 0 rfl rfl 5 (by decide) (hts _ q368) (fun _ h9 => h9) rfl dX10_item_29 ?_
    refine va_getN (D := (g.1, g.2.1)) (ci := 1) (v := .ref (bk 2)) (C := RX1) (T := TX1) (N := 9) hx hb hts in_X1 hown hK hP 1 rfl rfl 1 (by decide) (va_Nw.use rfl (hN _ q103 rfl)) (fun _ h9 => h9) rfl dX10_item_32 ?_
    refine lv_aload_n hx hb dX10_item_35 rfl (lv_at hl 0 rfl) ?_
    refine va_get (D := (g.1, g.2.1)) (ci := 10) (v := .ref (bk 0)) (C := RX10) (T := TX10) (N := 7) hx hb hts in_X10 hown hK hP 0 rfl rfl 5 (by decide) (hts _ q368) (fun _ h9 => h9) rfl dX10_item_36 ?_
    refine va_getN (D := (g.1, g.2.1)) (ci := 1) (v := .int (S.2.1 6)) (C := RX1) (T := TX1) (N := 9) hx hb hts in_X1 hown hK hP 1 rfl rfl 6 (by decide) (va_Nw.use rfl (hN _ q120 rfl)) (fun _ h9 => h9) rfl dX10_item_39 ?_
    refine lv_aload_n hx hb dX10_item_42 rfl (lv_at hl 0 rfl) ?_
    refine lv_iconst (v := 0) hx hb dX10_item_43 (by decide) ?_
    refine lv_bipush (v := 40) hx hb dX10_item_44 (by decide) ?_
    obtain ⟨S_2, o_3, h_4, hf⟩ := sm_t_e hf
    rcases o_3 with r_5 | x_6
    rotate_left
    · dsimp only [Sum.elim_inr] at hf
      have hf := Option.some.inj hf
      cases hf
      rw [← hQ]
      exact sm_throwOut (sm_runTV (As := [.int 0, .int 40]) (rest := [.int (S.2.1 6), .ref (bk 2)]) ⟨hx, hb, hml, hown, hts⟩ (wX10_number l g rd bk ad X z A S 0 40 _ (Sum.inr x_6) h_4) (cwV 2 hts (lw_V q566 q568 qs6 q71 q569) rfl rfl rfl (by decide +kernel) ⟨Nat.le_of_ble_eq_true rfl, Nat.le_of_ble_eq_true rfl⟩) (sm_pr hE hS hP hD hA hZ (va_recv hK hP (ci := 10) (q0 := 0) rfl rfl)) rfl rfl hl.1 rfl (lv_room (Nat.le_of_ble_eq_true rfl)) dX10_item_46 ⟨Nat.le_of_ble_eq_true rfl, Nat.le_of_ble_eq_true rfl⟩) hS hnh hlocks (fun _ _ _ h => h)
    dsimp only [Sum.elim_inl] at hf
    refine va_calli (va_runV (As := [.int 0, .int 40]) (rest := [.int (S.2.1 6), .ref (bk 2)]) ⟨hx, hb, hml, hown, hts⟩ (wX10_number l g rd bk ad X z A S 0 40 S_2 (Sum.inl r_5) h_4) (cwV 2 hts (lw_V q566 q568 qs6 q71 q569) rfl rfl rfl (by decide +kernel) ⟨Nat.le_of_ble_eq_true rfl, Nat.le_of_ble_eq_true rfl⟩) (sm_pr hE hS hP hD hA hZ (va_recv hK hP (ci := 10) (q0 := 0) rfl rfl)) rfl rfl hl.1 rfl (lv_room (Nat.le_of_ble_eq_true rfl)) dX10_item_46 ⟨Nat.le_of_ble_eq_true rfl, Nat.le_of_ble_eq_true rfl⟩) hS (fun _ _ h => h) (fun _ h => h) (fun r_8 u t H locs ht hvm er_7 hB hz hk hS => ?_)
    have er_7 := er_7.symm
    subst er_7
    obtain ⟨hP, hD⟩ := hB
    rw [ht] at hP
    obtain ⟨hg, hf⟩ := sm_gd_e hf
    refine va_iast (i := S.2.1 6) (x := r_5) hx hb hK hP hD hS 3 0 rfl rfl (sm_in hg) dX10_item_49 (fun H locs hP hD hS => ?_)
    obtain ⟨S_9, eS_9, hf⟩ := sm_lt_e hf
    have hP : PP g (WR g rd bk ad X S_9) H := by rw [eS_9]; exact pra1 hP
    have hD : va_D A (WR g rd bk ad X S_9) := by rw [eS_9]; exact dra1 hD
    refine lv_aload_n hx hb dX10_item_50 rfl (lv_at hl 0 rfl) ?_
    refine va_get (D := (g.1, g.2.1)) (ci := 10) (v := .ref (bk 0)) (C := RX10) (T := TX10) (N := 7) hx hb hts in_X10 hown hK hP 0 rfl rfl 5 (by decide) (hts _ q368) (fun _ h9 => h9) rfl dX10_item_51 ?_
    refine va_getN (D := (g.1, g.2.1)) (ci := 1) (v := .ref (bk 3)) (C := RX1) (T := TX1) (N := 9) hx hb hts in_X1 hown hK hP 1 rfl rfl 2 (by decide) (va_Nw.use rfl (hN _ q106 rfl)) (fun _ h9 => h9) rfl dX10_item_54 ?_
    refine lv_aload_n hx hb dX10_item_57 rfl (lv_at hl 0 rfl) ?_
    refine va_get (D := (g.1, g.2.1)) (ci := 10) (v := .ref (bk 0)) (C := RX10) (T := TX10) (N := 7) hx hb hts in_X10 hown hK hP 0 rfl rfl 5 (by decide) (hts _ q368) (fun _ h9 => h9) rfl dX10_item_58 ?_
    refine va_getN (D := (g.1, g.2.1)) (ci := 1) (v := .int (S_9.2.1 6)) (C := RX1) (T := TX1) (N := 9) hx hb hts in_X1 hown hK hP 1 rfl rfl 6 (by decide) (va_Nw.use rfl (hN _ q120 rfl)) (fun _ h9 => h9) rfl dX10_item_61 ?_
    refine lv_aload_n hx hb dX10_item_64 rfl (lv_at hl 0 rfl) ?_
    refine lv_iconst (v := 0) hx hb dX10_item_65 (by decide) ?_
    refine lv_bipush (v := 10) hx hb dX10_item_66 (by decide) ?_
    obtain ⟨S_10, o_11, h_12, hf⟩ := sm_t_e hf
    rcases o_11 with r_13 | x_14
    rotate_left
    · dsimp only [Sum.elim_inr] at hf
      have hf := Option.some.inj hf
      cases hf
      rw [← hQ]
      exact sm_throwOut (sm_runTV (As := [.int 0, .int 10]) (rest := [.int (S_9.2.1 6), .ref (bk 3)]) ⟨hx, hb, hml, hown, hts⟩ (wX10_number l g rd bk ad X z A S_9 0 10 _ (Sum.inr x_14) h_12) (cwV 2 hts (lw_V q566 q568 qs6 q71 q569) rfl rfl rfl (by decide +kernel) ⟨Nat.le_of_ble_eq_true rfl, Nat.le_of_ble_eq_true rfl⟩) (sm_pr hE hS hP hD hA hZ (va_recv hK hP (ci := 10) (q0 := 0) rfl rfl)) rfl rfl hl.1 rfl (lv_room (Nat.le_of_ble_eq_true rfl)) dX10_item_68 ⟨Nat.le_of_ble_eq_true rfl, Nat.le_of_ble_eq_true rfl⟩) hS hnh hlocks (fun _ _ _ h => h)
    dsimp only [Sum.elim_inl] at hf
    refine va_calli (va_runV (As := [.int 0, .int 10]) (rest := [.int (S_9.2.1 6), .ref (bk 3)]) ⟨hx, hb, hml, hown, hts⟩ (wX10_number l g rd bk ad X z A S_9 0 10 S_10 (Sum.inl r_13) h_12) (cwV 2 hts (lw_V q566 q568 qs6 q71 q569) rfl rfl rfl (by decide +kernel) ⟨Nat.le_of_ble_eq_true rfl, Nat.le_of_ble_eq_true rfl⟩) (sm_pr hE hS hP hD hA hZ (va_recv hK hP (ci := 10) (q0 := 0) rfl rfl)) rfl rfl hl.1 rfl (lv_room (Nat.le_of_ble_eq_true rfl)) dX10_item_68 ⟨Nat.le_of_ble_eq_true rfl, Nat.le_of_ble_eq_true rfl⟩) hS (fun _ _ h => h) (fun _ h => h) (fun r_16 u t H locs ht hvm er_15 hB hz hk hS => ?_)
    have er_15 := er_15.symm
    subst er_15
    obtain ⟨hP, hD⟩ := hB
    rw [ht] at hP
    obtain ⟨hg, hf⟩ := sm_gd_e hf
    refine va_iast (i := S_9.2.1 6) (x := r_13) hx hb hK hP hD hS 4 0 rfl rfl (sm_in hg) dX10_item_71 (fun H locs hP hD hS => ?_)
    obtain ⟨S_17, eS_17, hf⟩ := sm_lt_e hf
    have hP : PP g (WR g rd bk ad X S_17) H := by rw [eS_17]; exact pra2 hP
    have hD : va_D A (WR g rd bk ad X S_17) := by rw [eS_17]; exact dra2 hD
    refine lv_aload_n hx hb dX10_item_72 rfl (lv_at hl 0 rfl) ?_
    refine va_get (D := (g.1, g.2.1)) (ci := 10) (v := .ref (bk 0)) (C := RX10) (T := TX10) (N := 7) hx hb hts in_X10 hown hK hP 0 rfl rfl 5 (by decide) (hts _ q368) (fun _ h9 => h9) rfl dX10_item_73 ?_
    refine lv_dup hx hb dX10_item_76 rfl ?_
    refine va_getN (D := (g.1, g.2.1)) (ci := 1) (v := .int (S_17.2.1 6)) (C := RX1) (T := TX1) (N := 9) hx hb hts in_X1 hown hK hP 1 rfl rfl 6 (by decide) (va_Nw.use rfl (hN _ q120 rfl)) (fun _ h9 => h9) rfl dX10_item_77 ?_
    refine lv_iconst (v := 1) hx hb dX10_item_80 (by decide) ?_
    refine lv_iadd hx hb dX10_item_81 ?_
    refine va_putN (D := (g.1, g.2.1)) (ci := 1) (v := .int ((S_17.2.1 6) + 1)) (ty := .int) (C := RX1) (T := TX1) (N := 9) hx hb hts in_X1 tyX1 tyX1_ok nmX1 hown hK hP hD hS 1 rfl rfl 6 (by decide) (va_Nw.use rfl (hN _ q120 rfl)) (fun _ h9 => h9) rfl (by decide +kernel) rfl rfl (Nat.le_of_ble_eq_true rfl) dX10_item_82 (fun H locs hP hD hS => ?_)
    obtain ⟨S_18, eS_18, hf⟩ := sm_lt_e hf
    have hP : PP g (WR g rd bk ad X S_18) H := by rw [eS_18]; exact prb6 hP
    have hD : va_D A (WR g rd bk ad X S_18) := by rw [eS_18]; exact drb6 hD
    refine lv_goto (tgt := 237) hx hb dX10_item_85 (by decide) ?_
    have hf := Option.some.inj hf
    cases hf
    rw [← hQ]
    exact W.vret hx hb hr (fun t ht hW => ⟨⟨(), rfl, trivial, by rw [ht]; exact hP, hD⟩, hS.F ht⟩) hS.2.2 dX10_item_237
  have hf := (if_neg c_1_0).symm.trans hf
  by_cases c_1_1 : a1 = 4
  · have hf := (if_pos c_1_1).symm.trans hf
    refine lv_lookup (off := 87) (tgt := 88) hx hb dX10_item_1 (by decide) (by rw [c_1_1]; rfl) (by decide) ?_
    refine lv_aload_n hx hb dX10_item_88 rfl (lv_at hl 0 rfl) ?_
    refine va_get (D := (g.1, g.2.1)) (ci := 10) (v := .ref (bk 0)) (C := RX10) (T := TX10) (N := 7) hx hb hts in_X10 hown hK hP 0 rfl rfl 5 (by decide) (hts _ q368) (fun _ h9 => h9) rfl dX10_item_89 ?_
    refine va_getN (D := (g.1, g.2.1)) (ci := 1) (v := .ref (bk 4)) (C := RX1) (T := TX1) (N := 9) hx hb hts in_X1 hown hK hP 1 rfl rfl 3 (by decide) (va_Nw.use rfl (hN _ q110 rfl)) (fun _ h9 => h9) rfl dX10_item_92 ?_
    refine lv_aload_n hx hb dX10_item_95 rfl (lv_at hl 0 rfl) ?_
    refine va_get (D := (g.1, g.2.1)) (ci := 10) (v := .ref (bk 0)) (C := RX10) (T := TX10) (N := 7) hx hb hts in_X10 hown hK hP 0 rfl rfl 5 (by decide) (hts _ q368) (fun _ h9 => h9) rfl dX10_item_96 ?_
    refine va_getN (D := (g.1, g.2.1)) (ci := 1) (v := .int (S.2.1 7)) (C := RX1) (T := TX1) (N := 9) hx hb hts in_X1 hown hK hP 1 rfl rfl 7 (by decide) (va_Nw.use rfl (hN _ q123 rfl)) (fun _ h9 => h9) rfl dX10_item_99 ?_
    refine lv_aload_n hx hb dX10_item_102 rfl (lv_at hl 0 rfl) ?_
    refine lv_iconst (v := 0) hx hb dX10_item_103 (by decide) ?_
    refine lv_sipush (v := 1023) hx hb dX10_item_104 (by decide) ?_
    obtain ⟨S_19, o_20, h_21, hf⟩ := sm_t_e hf
    rcases o_20 with r_22 | x_23
    rotate_left
    · dsimp only [Sum.elim_inr] at hf
      have hf := Option.some.inj hf
      cases hf
      rw [← hQ]
      exact sm_throwOut (sm_runTV (As := [.int 0, .int 1023]) (rest := [.int (S.2.1 7), .ref (bk 4)]) ⟨hx, hb, hml, hown, hts⟩ (wX10_number l g rd bk ad X z A S 0 1023 _ (Sum.inr x_23) h_21) (cwV 2 hts (lw_V q566 q568 qs6 q71 q569) rfl rfl rfl (by decide +kernel) ⟨Nat.le_of_ble_eq_true rfl, Nat.le_of_ble_eq_true rfl⟩) (sm_pr hE hS hP hD hA hZ (va_recv hK hP (ci := 10) (q0 := 0) rfl rfl)) rfl rfl hl.1 rfl (lv_room (Nat.le_of_ble_eq_true rfl)) dX10_item_107 ⟨Nat.le_of_ble_eq_true rfl, Nat.le_of_ble_eq_true rfl⟩) hS hnh hlocks (fun _ _ _ h => h)
    dsimp only [Sum.elim_inl] at hf
    refine va_calli (va_runV (As := [.int 0, .int 1023]) (rest := [.int (S.2.1 7), .ref (bk 4)]) ⟨hx, hb, hml, hown, hts⟩ (wX10_number l g rd bk ad X z A S 0 1023 S_19 (Sum.inl r_22) h_21) (cwV 2 hts (lw_V q566 q568 qs6 q71 q569) rfl rfl rfl (by decide +kernel) ⟨Nat.le_of_ble_eq_true rfl, Nat.le_of_ble_eq_true rfl⟩) (sm_pr hE hS hP hD hA hZ (va_recv hK hP (ci := 10) (q0 := 0) rfl rfl)) rfl rfl hl.1 rfl (lv_room (Nat.le_of_ble_eq_true rfl)) dX10_item_107 ⟨Nat.le_of_ble_eq_true rfl, Nat.le_of_ble_eq_true rfl⟩) hS (fun _ _ h => h) (fun _ h => h) (fun r_25 u t H locs ht hvm er_24 hB hz hk hS => ?_)
    have er_24 := er_24.symm
    subst er_24
    obtain ⟨hP, hD⟩ := hB
    rw [ht] at hP
    obtain ⟨hg, hf⟩ := sm_gd_e hf
    refine va_iast (i := S.2.1 7) (x := r_22) hx hb hK hP hD hS 5 0 rfl rfl (sm_in hg) dX10_item_110 (fun H locs hP hD hS => ?_)
    obtain ⟨S_26, eS_26, hf⟩ := sm_lt_e hf
    have hP : PP g (WR g rd bk ad X S_26) H := by rw [eS_26]; exact pra3 hP
    have hD : va_D A (WR g rd bk ad X S_26) := by rw [eS_26]; exact dra3 hD
    refine lv_aload_n hx hb dX10_item_111 rfl (lv_at hl 0 rfl) ?_
    refine lv_iconst (v := 0) hx hb dX10_item_112 (by decide) ?_
    refine lv_bipush (v := 10) hx hb dX10_item_113 (by decide) ?_
    obtain ⟨S_27, o_28, h_29, hf⟩ := sm_t_e hf
    rcases o_28 with r_30 | x_31
    rotate_left
    · dsimp only [Sum.elim_inr] at hf
      have hf := Option.some.inj hf
      cases hf
      rw [← hQ]
      exact sm_throwOut (sm_runTV (As := [.int 0, .int 10]) (rest := []) ⟨hx, hb, hml, hown, hts⟩ (wX10_number l g rd bk ad X z A S_26 0 10 _ (Sum.inr x_31) h_29) (cwV 2 hts (lw_V q566 q568 qs6 q71 q569) rfl rfl rfl (by decide +kernel) ⟨Nat.le_of_ble_eq_true rfl, Nat.le_of_ble_eq_true rfl⟩) (sm_pr hE hS hP hD hA hZ (va_recv hK hP (ci := 10) (q0 := 0) rfl rfl)) rfl rfl hl.1 rfl (lv_room (Nat.le_of_ble_eq_true rfl)) dX10_item_115 ⟨Nat.le_of_ble_eq_true rfl, Nat.le_of_ble_eq_true rfl⟩) hS hnh hlocks (fun _ _ _ h => h)
    dsimp only [Sum.elim_inl] at hf
    refine va_calli (va_runV (As := [.int 0, .int 10]) (rest := []) ⟨hx, hb, hml, hown, hts⟩ (wX10_number l g rd bk ad X z A S_26 0 10 S_27 (Sum.inl r_30) h_29) (cwV 2 hts (lw_V q566 q568 qs6 q71 q569) rfl rfl rfl (by decide +kernel) ⟨Nat.le_of_ble_eq_true rfl, Nat.le_of_ble_eq_true rfl⟩) (sm_pr hE hS hP hD hA hZ (va_recv hK hP (ci := 10) (q0 := 0) rfl rfl)) rfl rfl hl.1 rfl (lv_room (Nat.le_of_ble_eq_true rfl)) dX10_item_115 ⟨Nat.le_of_ble_eq_true rfl, Nat.le_of_ble_eq_true rfl⟩) hS (fun _ _ h => h) (fun _ h => h) (fun r_33 u t H locs ht hvm er_32 hB hz hk hS => ?_)
    have er_32 := er_32.symm
    subst er_32
    obtain ⟨hP, hD⟩ := hB
    rw [ht] at hP
    refine lv_istore_n (lv' := [(2, .int r_30), (0, .ref rd), (1, .int a1)]) hx hb dX10_item_118 rfl hl (by decide) rfl (fun ls hl => ?_)
    refine lv_aload_n hx hb dX10_item_119 rfl (lv_at hl 1 rfl) ?_
    refine va_get (D := (g.1, g.2.1)) (ci := 10) (v := .ref (bk 0)) (C := RX10) (T := TX10) (N := 7) hx hb hts in_X10 hown hK hP 0 rfl rfl 5 (by decide) (hts _ q368) (fun _ h9 => h9) rfl dX10_item_120 ?_
    refine va_getN (D := (g.1, g.2.1)) (ci := 1) (v := .ref (bk 5)) (C := RX1) (T := TX1) (N := 9) hx hb hts in_X1 hown hK hP 1 rfl rfl 4 (by decide) (va_Nw.use rfl (hN _ q114 rfl)) (fun _ h9 => h9) rfl dX10_item_123 ?_
    refine lv_aload_n hx hb dX10_item_126 rfl (lv_at hl 1 rfl) ?_
    refine va_get (D := (g.1, g.2.1)) (ci := 10) (v := .ref (bk 0)) (C := RX10) (T := TX10) (N := 7) hx hb hts in_X10 hown hK hP 0 rfl rfl 5 (by decide) (hts _ q368) (fun _ h9 => h9) rfl dX10_item_127 ?_
    refine va_getN (D := (g.1, g.2.1)) (ci := 1) (v := .int (S_27.2.1 7)) (C := RX1) (T := TX1) (N := 9) hx hb hts in_X1 hown hK hP 1 rfl rfl 7 (by decide) (va_Nw.use rfl (hN _ q123 rfl)) (fun _ h9 => h9) rfl dX10_item_130 ?_
    refine lv_iload_n hx hb dX10_item_133 rfl (lv_at hl 0 rfl) ?_
    obtain ⟨hg, hf⟩ := sm_gd_e hf
    refine va_iast (i := S_27.2.1 7) (x := r_30) hx hb hK hP hD hS 6 0 rfl rfl (sm_in hg) dX10_item_134 (fun H locs hP hD hS => ?_)
    obtain ⟨S_34, eS_34, hf⟩ := sm_lt_e hf
    have hP : PP g (WR g rd bk ad X S_34) H := by rw [eS_34]; exact pra4 hP
    have hD : va_D A (WR g rd bk ad X S_34) := by rw [eS_34]; exact dra4 hD
    refine lv_aload_n hx hb dX10_item_135 rfl (lv_at hl 1 rfl) ?_
    refine va_get (D := (g.1, g.2.1)) (ci := 10) (v := .ref (bk 0)) (C := RX10) (T := TX10) (N := 7) hx hb hts in_X10 hown hK hP 0 rfl rfl 5 (by decide) (hts _ q368) (fun _ h9 => h9) rfl dX10_item_136 ?_
    refine va_getN (D := (g.1, g.2.1)) (ci := 1) (v := .ref (bk 6)) (C := RX1) (T := TX1) (N := 9) hx hb hts in_X1 hown hK hP 1 rfl rfl 5 (by decide) (va_Nw.use rfl (hN _ q118 rfl)) (fun _ h9 => h9) rfl dX10_item_139 ?_
    refine lv_aload_n hx hb dX10_item_142 rfl (lv_at hl 1 rfl) ?_
    refine va_get (D := (g.1, g.2.1)) (ci := 10) (v := .ref (bk 0)) (C := RX10) (T := TX10) (N := 7) hx hb hts in_X10 hown hK hP 0 rfl rfl 5 (by decide) (hts _ q368) (fun _ h9 => h9) rfl dX10_item_143 ?_
    refine va_getN (D := (g.1, g.2.1)) (ci := 1) (v := .int (S_34.2.1 7)) (C := RX1) (T := TX1) (N := 9) hx hb hts in_X1 hown hK hP 1 rfl rfl 7 (by decide) (va_Nw.use rfl (hN _ q123 rfl)) (fun _ h9 => h9) rfl dX10_item_146 ?_
    refine lv_aload_n hx hb dX10_item_149 rfl (lv_at hl 1 rfl) ?_
    refine lv_aload_n hx hb dX10_item_150 rfl (lv_at hl 1 rfl) ?_
    refine va_get (D := (g.1, g.2.1)) (ci := 10) (v := .int (S_34.1 2)) (C := RX10) (T := TX10) (N := 7) hx hb hts in_X10 hown hK hP 0 rfl rfl 2 (by decide) (hts _ q365) (fun _ h9 => h9) rfl dX10_item_151 ?_
    refine lv_iconst (v := 5) hx hb dX10_item_154 (by decide) ?_
    obtain ⟨x_35, hf, hf0⟩ := sm_b1_e hf
    suffices hj_36 : ∀ (ls : Array Slot), lv_has ls 3 [(2, .int r_30), (0, .ref rd), (1, .int a1)] → W p l e (rX10_item of) s m args below meth c H locs 0 0 Q (F0 m 198 ls [.int x_35, .ref rd, .int (S_34.2.1 7), .ref (bk 6)]) from by
      refine lv_icmp_ne (tgt := 197) hx hb dX10_item_155 (by decide) (fun c_37 => ?_) (fun c_37 => ?_)
      · have hf := (if_neg c_37).symm.trans hf
        refine lv_iconst (v := 0) hx hb dX10_item_197 (by decide) ?_
        cases hf
        exact hj_36 _ (lv_sub hl [0, 1, 2] rfl)
      · have hf := (if_pos c_37).symm.trans hf
        refine lv_iload_n hx hb dX10_item_158 rfl (lv_at hl 0 rfl) ?_
        refine lv_bipush (v := 10) hx hb dX10_item_159 (by decide) ?_
        refine lv_icmp_ne (tgt := 176) hx hb dX10_item_161 (by decide) (fun c_38 => ?_) (fun c_38 => ?_)
        · have hf := (if_neg c_38).symm.trans hf
          refine lv_aload_n hx hb dX10_item_176 rfl (lv_at hl 1 rfl) ?_
          refine va_get (D := (g.1, g.2.1)) (ci := 10) (v := .int (S_34.1 3)) (C := RX10) (T := TX10) (N := 7) hx hb hts in_X10 hown hK hP 0 rfl rfl 3 (by decide) (hts _ q366) (fun _ h9 => h9) rfl dX10_item_177 ?_
          refine lv_bipush (v := 10) hx hb dX10_item_180 (by decide) ?_
          refine lv_icmp_ge (tgt := 197) hx hb dX10_item_182 (by decide) (fun c_39 => ?_) (fun c_39 => ?_)
          · have hf := (if_pos c_39).symm.trans hf
            refine lv_iconst (v := 0) hx hb dX10_item_197 (by decide) ?_
            cases hf
            exact hj_36 _ (lv_sub hl [0, 1, 2] rfl)
          · have hf := (if_neg c_39).symm.trans hf
            refine lv_aload_n hx hb dX10_item_185 rfl (lv_at hl 1 rfl) ?_
            refine va_get (D := (g.1, g.2.1)) (ci := 10) (v := .int (S_34.1 3)) (C := RX10) (T := TX10) (N := 7) hx hb hts in_X10 hown hK hP 0 rfl rfl 3 (by decide) (hts _ q366) (fun _ h9 => h9) rfl dX10_item_186 ?_
            refine lv_iload_n hx hb dX10_item_189 rfl (lv_at hl 0 rfl) ?_
            refine lv_icmp_eq (tgt := 197) hx hb dX10_item_190 (by decide) (fun c_40 => ?_) (fun c_40 => ?_)
            · have hf := (if_pos c_40).symm.trans hf
              refine lv_iconst (v := 0) hx hb dX10_item_197 (by decide) ?_
              cases hf
              exact hj_36 _ (lv_sub hl [0, 1, 2] rfl)
            · have hf := (if_neg c_40).symm.trans hf
              refine lv_iconst (v := 1) hx hb dX10_item_193 (by decide) ?_
              refine lv_goto (tgt := 198) hx hb dX10_item_194 (by decide) ?_
              cases hf
              exact hj_36 _ (lv_sub hl [0, 1, 2] rfl)
        · have hf := (if_pos c_38).symm.trans hf
          refine lv_aload_n hx hb dX10_item_164 rfl (lv_at hl 1 rfl) ?_
          refine va_get (D := (g.1, g.2.1)) (ci := 10) (v := .int (S_34.1 3)) (C := RX10) (T := TX10) (N := 7) hx hb hts in_X10 hown hK hP 0 rfl rfl 3 (by decide) (hts _ q366) (fun _ h9 => h9) rfl dX10_item_165 ?_
          refine lv_bipush (v := 10) hx hb dX10_item_168 (by decide) ?_
          refine lv_icmp_ne (tgt := 197) hx hb dX10_item_170 (by decide) (fun c_41 => ?_) (fun c_41 => ?_)
          · have hf := (if_neg c_41).symm.trans hf
            refine lv_iconst (v := 0) hx hb dX10_item_197 (by decide) ?_
            cases hf
            exact hj_36 _ (lv_sub hl [0, 1, 2] rfl)
          · have hf := (if_pos c_41).symm.trans hf
            refine lv_goto (tgt := 193) hx hb dX10_item_173 (by decide) ?_
            refine lv_iconst (v := 1) hx hb dX10_item_193 (by decide) ?_
            refine lv_goto (tgt := 198) hx hb dX10_item_194 (by decide) ?_
            cases hf
            exact hj_36 _ (lv_sub hl [0, 1, 2] rfl)
    intro ls hl
    have hf := hf0
    obtain ⟨S_42, o_43, h_44, hf⟩ := sm_t_e hf
    rcases o_43 with r_45 | x_46
    rotate_left
    · dsimp only [Sum.elim_inr] at hf
      have hf := Option.some.inj hf
      cases hf
      rw [← hQ]
      exact sm_throwOut (sm_runTV (As := [.int x_35]) (rest := [.int (S_34.2.1 7), .ref (bk 6)]) ⟨hx, hb, hml, hown, hts⟩ (wX10_due l g rd bk ad X z A S_34 x_35 _ (Sum.inr x_46) h_44) (cwV 1 hts (lw_V q490 q492 qs3 q71 q493) rfl rfl rfl (by decide +kernel) ⟨Nat.le_of_ble_eq_true rfl, Nat.le_of_ble_eq_true rfl⟩) (sm_pr hE hS hP hD hA hZ (va_recv hK hP (ci := 10) (q0 := 0) rfl rfl)) rfl rfl hl.1 rfl (lv_room (Nat.le_of_ble_eq_true rfl)) dX10_item_198 ⟨Nat.le_of_ble_eq_true rfl, Nat.le_of_ble_eq_true rfl⟩) hS hnh hlocks (fun _ _ _ h => h)
    dsimp only [Sum.elim_inl] at hf
    refine va_calli (va_runV (As := [.int x_35]) (rest := [.int (S_34.2.1 7), .ref (bk 6)]) ⟨hx, hb, hml, hown, hts⟩ (wX10_due l g rd bk ad X z A S_34 x_35 S_42 (Sum.inl r_45) h_44) (cwV 1 hts (lw_V q490 q492 qs3 q71 q493) rfl rfl rfl (by decide +kernel) ⟨Nat.le_of_ble_eq_true rfl, Nat.le_of_ble_eq_true rfl⟩) (sm_pr hE hS hP hD hA hZ (va_recv hK hP (ci := 10) (q0 := 0) rfl rfl)) rfl rfl hl.1 rfl (lv_room (Nat.le_of_ble_eq_true rfl)) dX10_item_198 ⟨Nat.le_of_ble_eq_true rfl, Nat.le_of_ble_eq_true rfl⟩) hS (fun _ _ h => h) (fun _ h => h) (fun r_48 u t H locs ht hvm er_47 hB hz hk hS => ?_)
    have er_47 := er_47.symm
    subst er_47
    obtain ⟨hP, hD⟩ := hB
    rw [ht] at hP
    obtain ⟨hg, hf⟩ := sm_gd_e hf
    refine va_iast (i := S_34.2.1 7) (x := r_45) hx hb hK hP hD hS 7 0 rfl rfl (sm_in hg) dX10_item_201 (fun H locs hP hD hS => ?_)
    obtain ⟨S_49, eS_49, hf⟩ := sm_lt_e hf
    have hP : PP g (WR g rd bk ad X S_49) H := by rw [eS_49]; exact pra5 hP
    have hD : va_D A (WR g rd bk ad X S_49) := by rw [eS_49]; exact dra5 hD
    refine lv_aload_n hx hb dX10_item_202 rfl (lv_at hl 1 rfl) ?_
    refine va_get (D := (g.1, g.2.1)) (ci := 10) (v := .ref (bk 0)) (C := RX10) (T := TX10) (N := 7) hx hb hts in_X10 hown hK hP 0 rfl rfl 5 (by decide) (hts _ q368) (fun _ h9 => h9) rfl dX10_item_203 ?_
    refine lv_dup hx hb dX10_item_206 rfl ?_
    refine va_getN (D := (g.1, g.2.1)) (ci := 1) (v := .int (S_49.2.1 7)) (C := RX1) (T := TX1) (N := 9) hx hb hts in_X1 hown hK hP 1 rfl rfl 7 (by decide) (va_Nw.use rfl (hN _ q123 rfl)) (fun _ h9 => h9) rfl dX10_item_207 ?_
    refine lv_iconst (v := 1) hx hb dX10_item_210 (by decide) ?_
    refine lv_iadd hx hb dX10_item_211 ?_
    refine va_putN (D := (g.1, g.2.1)) (ci := 1) (v := .int ((S_49.2.1 7) + 1)) (ty := .int) (C := RX1) (T := TX1) (N := 9) hx hb hts in_X1 tyX1 tyX1_ok nmX1 hown hK hP hD hS 1 rfl rfl 7 (by decide) (va_Nw.use rfl (hN _ q123 rfl)) (fun _ h9 => h9) rfl (by decide +kernel) rfl rfl (Nat.le_of_ble_eq_true rfl) dX10_item_212 (fun H locs hP hD hS => ?_)
    obtain ⟨S_50, eS_50, hf⟩ := sm_lt_e hf
    have hP : PP g (WR g rd bk ad X S_50) H := by rw [eS_50]; exact prb7 hP
    have hD : va_D A (WR g rd bk ad X S_50) := by rw [eS_50]; exact drb7 hD
    refine lv_goto (tgt := 237) hx hb dX10_item_215 (by decide) ?_
    have hf := Option.some.inj hf
    cases hf
    rw [← hQ]
    exact W.vret hx hb hr (fun t ht hW => ⟨⟨(), rfl, trivial, by rw [ht]; exact hP, hD⟩, hS.F ht⟩) hS.2.2 dX10_item_237
  have hf := (if_neg c_1_1).symm.trans hf
  refine lv_lookup (off := 217) (tgt := 218) hx hb dX10_item_1 (by decide) (by show Op.lookupswitch.offset [(3, 27), (4, 87)] 217 _ = _; rw [lv_osw (a := 3) c_1_0 rfl, lv_osw (a := 4) c_1_1 rfl]; rfl) (by decide) ?_
  refine lv_aload_n hx hb dX10_item_218 rfl (lv_at hl 0 rfl) ?_
  refine va_get (D := (g.1, g.2.1)) (ci := 10) (v := .ref (bk 0)) (C := RX10) (T := TX10) (N := 7) hx hb hts in_X10 hown hK hP 0 rfl rfl 5 (by decide) (hts _ q368) (fun _ h9 => h9) rfl dX10_item_219 ?_
  refine va_getN (D := (g.1, g.2.1)) (ci := 1) (v := .ref (bk 1)) (C := RX1) (T := TX1) (N := 9) hx hb hts in_X1 hown hK hP 1 rfl rfl 0 (by decide) (va_Nw.use rfl (hN _ q100 rfl)) (fun _ h9 => h9) rfl dX10_item_222 ?_
  refine lv_iload_n hx hb dX10_item_225 rfl (lv_at hl 1 rfl) ?_
  refine lv_aload_n hx hb dX10_item_226 rfl (lv_at hl 0 rfl) ?_
  refine lv_iconst (v := 1) hx hb dX10_item_227 (by decide) ?_
  refine va_getsN hx hb hZ.1 hS hown (va_Nw.use rfl (hN _ q570 rfl)) (fun _ h9 => h9) dX10_item_228 ?_
  refine lv_iload_n hx hb dX10_item_231 rfl (lv_at hl 1 rfl) ?_
  obtain ⟨hg, hf⟩ := sm_gd_e hf
  refine va_ti hx hb hZ.2.1 hS (sm_in hg) rfl dX10_item_232 ?_
  obtain ⟨S_51, o_52, h_53, hf⟩ := sm_t_e hf
  rcases o_52 with r_54 | x_55
  rotate_left
  · dsimp only [Sum.elim_inr] at hf
    have hf := Option.some.inj hf
    cases hf
    rw [← hQ]
    exact sm_throwOut (sm_runTV (As := [.int 1, .int (sm_most a1.toNatClampNeg)]) (rest := [.int a1, .ref (bk 1)]) ⟨hx, hb, hml, hown, hts⟩ (wX10_number l g rd bk ad X z A S 1 (sm_most a1.toNatClampNeg) _ (Sum.inr x_55) h_53) (cwV 2 hts (lw_V q566 q568 qs6 q71 q569) rfl rfl rfl (by decide +kernel) ⟨Nat.le_of_ble_eq_true rfl, Nat.le_of_ble_eq_true rfl⟩) (sm_pr hE hS hP hD hA hZ (va_recv hK hP (ci := 10) (q0 := 0) rfl rfl)) rfl rfl hl.1 rfl (lv_room (Nat.le_of_ble_eq_true rfl)) dX10_item_233 ⟨Nat.le_of_ble_eq_true rfl, Nat.le_of_ble_eq_true rfl⟩) hS hnh hlocks (fun _ _ _ h => h)
  dsimp only [Sum.elim_inl] at hf
  refine va_calli (va_runV (As := [.int 1, .int (sm_most a1.toNatClampNeg)]) (rest := [.int a1, .ref (bk 1)]) ⟨hx, hb, hml, hown, hts⟩ (wX10_number l g rd bk ad X z A S 1 (sm_most a1.toNatClampNeg) S_51 (Sum.inl r_54) h_53) (cwV 2 hts (lw_V q566 q568 qs6 q71 q569) rfl rfl rfl (by decide +kernel) ⟨Nat.le_of_ble_eq_true rfl, Nat.le_of_ble_eq_true rfl⟩) (sm_pr hE hS hP hD hA hZ (va_recv hK hP (ci := 10) (q0 := 0) rfl rfl)) rfl rfl hl.1 rfl (lv_room (Nat.le_of_ble_eq_true rfl)) dX10_item_233 ⟨Nat.le_of_ble_eq_true rfl, Nat.le_of_ble_eq_true rfl⟩) hS (fun _ _ h => h) (fun _ h => h) (fun r_57 u t H locs ht hvm er_56 hB hz hk hS => ?_)
  have er_56 := er_56.symm
  subst er_56
  obtain ⟨hP, hD⟩ := hB
  rw [ht] at hP
  obtain ⟨hg, hf⟩ := sm_gd_e hf
  refine va_iast (i := a1) (x := r_54) hx hb hK hP hD hS 2 0 rfl rfl (sm_in hg) dX10_item_236 (fun H locs hP hD hS => ?_)
  obtain ⟨S_58, eS_58, hf⟩ := sm_lt_e hf
  have hP : PP g (WR g rd bk ad X S_58) H := by rw [eS_58]; exact pra0 hP
  have hD : va_D A (WR g rd bk ad X S_58) := by rw [eS_58]; exact dra0 hD
  have hf := Option.some.inj hf
  cases hf
  rw [← hQ]
  exact W.vret hx hb hr (fun t ht hW => ⟨⟨(), rfl, trivial, by rw [ht]; exact hP, hD⟩, hS.F ht⟩) hS.2.2 dX10_item_237
abbrev rX10_read : Unit ⊕ Int32 → Room := sm_rB 8 306
set_option maxHeartbeats 4000000 in
theorem wX10_read (l : Launch) (g : GG) (rd : Nat) (bk ad : Nat → Nat) (X : XS) (z : ZZ) (A : Nat → Prop) (S : RS) (Sf : RS) (of : Unit ⊕ Int32) (hf : fX10_read X S = some (Sf, of)) : sm_MB l yX10_read (ws_ yX10_read cX10_read 2 (some (.object "SmokedLetters$Book"))) rX10_read (va_Pc [.ref rd] (fun Ux => PP g (WR g rd bk ad X S) Ux.heap ∧ EV g Ux ∧ va_D A (WR g rd bk ad X S) ∧ (∀ q, Ux.heap.size ≤ q → A q) ∧ ZO z A Ux Ux.heap)) of (fun (_ : Unit) => va_Qr (fun (_ : Unit) => True) (fun _ a t => a = bk 0 ∧ PP g (WR g rd bk ad X Sf) t.heap ∧ va_D A (WR g rd bk ad X Sf)) A) (fun x => sm_Xt (PTr g rd bk ad X Sf x) A) A := by
  refine sm_stB (by decide) ?_
  intro p e s m args below meth c hx hb hr hlocks hml hown hnm hts hnh hv
  obtain ⟨hargs, hP, hE, hD, hA, hZ⟩ := hv
  obtain ⟨hK, hN⟩ := id hE
  have hS : va_S A s.heap s.heap [] := va_S.rf
  have hown : s.vm.findClass RX10 = some m.cls := hown
  refine sm_en _ (Nat.le_of_ble_eq_true rfl) hargs (fun ls hl => ?_)
  have hl : lv_has ls 2 [(0, .ref rd)] := hl
  generalize hQ : sm_QB below args s of _ _ _ = Q
  unfold fX10_read at hf
  refine lv_aload_n hx hb dX10_read_0 rfl (lv_at hl 0 rfl) ?_
  obtain ⟨S_1, h_2, hf⟩ := sm_b1_e hf
  refine va_callv (va_runV (As := []) (rest := []) ⟨hx, hb, hml, hown, hts⟩ (wX10_next l g rd bk ad X z A S  S_1 h_2) (cwV 0 hts (lw_V q389 q391 qs0 q71 q392) rfl rfl rfl (by decide +kernel) ⟨Nat.le_of_ble_eq_true rfl, Nat.le_of_ble_eq_true rfl⟩) (sm_pr hE hS hP hD hA hZ (va_recv hK hP (ci := 10) (q0 := 0) rfl rfl)) rfl rfl hl.1 rfl (lv_room (Nat.le_of_ble_eq_true rfl)) dX10_read_1 ⟨Nat.le_of_ble_eq_true rfl, Nat.le_of_ble_eq_true rfl⟩) hS (fun _ _ h => h) (fun _ h => h) (fun u t H locs ht hvm er_3 hB hz hk hS => ?_)
  obtain ⟨hP, hD⟩ := hB
  rw [ht] at hP
  have L_11 : ∀ (n : Nat) (S_5 : RS) (o_9 : (RS ⊕ (RS × (Unit ⊕ Int32)))) (H : Heap) (locs : List Loc) (ls : Array Slot), sm_lp (fun q => fX10_read_4 X q) n S_5 = some o_9 → PP g (WR g rd bk ad X S_5) H → va_D A (WR g rd bk ad X S_5) → va_S A s.heap H locs → lv_has ls 2 [(0, .ref rd)] → (∀ (S_5 : RS) (H : Heap) (locs : List Loc) (ls : Array Slot), o_9 = Sum.inl S_5 → PP g (WR g rd bk ad X S_5) H → va_D A (WR g rd bk ad X S_5) → va_S A s.heap H locs → lv_has ls 2 [(0, .ref rd)] → W p l e (rX10_read of) s m args below meth c H locs 0 0 Q (F0 m 80 ls [])) → (∀ rv : (RS × (Unit ⊕ Int32)), o_9 = Sum.inr rv → rv = (Sf, of)) → W p l e (rX10_read of) s m args below meth c H locs 0 0 Q (F0 m 4 ls []) := by
    intro n
    induction n with
    | zero =>
      intro _ _ _ _ _ hf
      cases hf
    | succ n ih_6 =>
      intro S_5 o_9 H locs ls hf hP hD hS hl kx_7 kr_8
      obtain ⟨q, hf, hc_10⟩ := sm_bnd hf
      have hf : fX10_read_4 X S_5 = some q := hf
      unfold fX10_read_4 at hf
      refine lv_aload_n hx hb dX10_read_4 rfl (lv_at hl 0 rfl) ?_
      refine va_get (D := (g.1, g.2.1)) (ci := 10) (v := .int (S_5.1 2)) (C := RX10) (T := TX10) (N := 7) hx hb hts in_X10 hown hK hP 0 rfl rfl 2 (by decide) (hts _ q365) (fun _ h9 => h9) rfl dX10_read_5 ?_
      refine lv_bipush (v := 7) hx hb dX10_read_8 (by decide) ?_
      refine lv_icmp_eq (tgt := 80) hx hb dX10_read_10 (by decide) (fun c_13 => ?_) (fun c_13 => ?_)
      · have hf := (if_pos c_13).symm.trans hf
        cases hf
        exact kx_7 _ _ _ _ (Option.some.inj hc_10).symm hP hD hS (lv_sub hl [0] rfl)
      · have hf := (if_neg c_13).symm.trans hf
        refine lv_aload_n hx hb dX10_read_13 rfl (lv_at hl 0 rfl) ?_
        refine va_get (D := (g.1, g.2.1)) (ci := 10) (v := .int (S_5.1 2)) (C := RX10) (T := TX10) (N := 7) hx hb hts in_X10 hown hK hP 0 rfl rfl 2 (by decide) (hts _ q365) (fun _ h9 => h9) rfl dX10_read_14 ?_
        refine lv_istore_n (lv' := [(1, .int (S_5.1 2)), (0, .ref rd)]) hx hb dX10_read_17 rfl hl (by decide) rfl (fun ls hl => ?_)
        refine lv_aload_n hx hb dX10_read_18 rfl (lv_at hl 1 rfl) ?_
        refine lv_aload_n hx hb dX10_read_19 rfl (lv_at hl 1 rfl) ?_
        refine lv_iload_n hx hb dX10_read_20 rfl (lv_at hl 0 rfl) ?_
        refine vp_callSi (W.runV (As := [.int (S_5.1 2)]) (rest := [.ref rd]) ⟨hx, hb, hml, hown, hts⟩ (wX10_may l g rd bk ad X z A S_5 (S_5.1 2) (fX10_may X S_5 (S_5.1 2)) rfl) (cwV 1 hts (lw_V q486 q488 qs2 q71 q489) rfl rfl rfl (by decide +kernel) ⟨Nat.le_of_ble_eq_true rfl, Nat.le_of_ble_eq_true rfl⟩) (sm_pv hE hP (va_recv hK hP (ci := 10) (q0 := 0) rfl rfl)) rfl rfl hl.1 rfl (lv_room (Nat.le_of_ble_eq_true rfl)) dX10_read_21 ⟨Nat.le_of_ble_eq_true rfl, Nat.le_of_ble_eq_true rfl⟩) (fun r_15 er_14 => ?_)
        have er_14 := er_14.symm
        subst er_14
        obtain ⟨S_16, o_17, h_18, hf⟩ := sm_t_e hf
        rcases o_17 with r_19 | x_20
        rotate_left
        · dsimp only [Sum.elim_inr] at hf
          cases hf
          have hf := kr_8 _ (Option.some.inj hc_10).symm
          cases hf
          rw [← hQ]
          exact sm_throwOut (sm_runTV (As := [.int (fX10_may X S_5 (S_5.1 2))]) (rest := []) ⟨hx, hb, hml, hown, hts⟩ (wX10_due l g rd bk ad X z A S_5 (fX10_may X S_5 (S_5.1 2)) _ (Sum.inr x_20) h_18) (cwV 1 hts (lw_V q490 q492 qs3 q71 q493) rfl rfl rfl (by decide +kernel) ⟨Nat.le_of_ble_eq_true rfl, Nat.le_of_ble_eq_true rfl⟩) (sm_pr hE hS hP hD hA hZ (va_recv hK hP (ci := 10) (q0 := 0) rfl rfl)) rfl rfl hl.1 rfl (lv_room (Nat.le_of_ble_eq_true rfl)) dX10_read_24 ⟨Nat.le_of_ble_eq_true rfl, Nat.le_of_ble_eq_true rfl⟩) hS hnh hlocks (fun _ _ _ h => h)
        dsimp only [Sum.elim_inl] at hf
        refine va_calli (va_runV (As := [.int (fX10_may X S_5 (S_5.1 2))]) (rest := []) ⟨hx, hb, hml, hown, hts⟩ (wX10_due l g rd bk ad X z A S_5 (fX10_may X S_5 (S_5.1 2)) S_16 (Sum.inl r_19) h_18) (cwV 1 hts (lw_V q490 q492 qs3 q71 q493) rfl rfl rfl (by decide +kernel) ⟨Nat.le_of_ble_eq_true rfl, Nat.le_of_ble_eq_true rfl⟩) (sm_pr hE hS hP hD hA hZ (va_recv hK hP (ci := 10) (q0 := 0) rfl rfl)) rfl rfl hl.1 rfl (lv_room (Nat.le_of_ble_eq_true rfl)) dX10_read_24 ⟨Nat.le_of_ble_eq_true rfl, Nat.le_of_ble_eq_true rfl⟩) hS (fun _ _ h => h) (fun _ h => h) (fun r_22 u t H locs ht hvm er_21 hB hz hk hS => ?_)
        have er_21 := er_21.symm
        subst er_21
        obtain ⟨hP, hD⟩ := hB
        rw [ht] at hP
        refine lv_pop hx hb dX10_read_27 rfl ?_
        refine lv_aload_n hx hb dX10_read_28 rfl (lv_at hl 1 rfl) ?_
        refine lv_dup hx hb dX10_read_29 rfl ?_
        refine va_get (D := (g.1, g.2.1)) (ci := 10) (v := .int (S_16.1 4)) (C := RX10) (T := TX10) (N := 7) hx hb hts in_X10 hown hK hP 0 rfl rfl 4 (by decide) (hts _ q367) (fun _ h9 => h9) rfl dX10_read_30 ?_
        refine lv_iconst (v := 1) hx hb dX10_read_33 (by decide) ?_
        refine lv_iload_n hx hb dX10_read_34 rfl (lv_at hl 0 rfl) ?_
        refine lv_ishl hx hb dX10_read_35 ?_
        refine lv_ior hx hb dX10_read_36 ?_
        refine va_put (D := (g.1, g.2.1)) (ci := 10) (v := .int ((S_16.1 4) ||| (1 <<< ((S_5.1 2) &&& 31)))) (ty := .int) (C := RX10) (T := TX10) (N := 7) hx hb hts in_X10 tyX10 tyX10_ok nmX10 hown hK hP hD hS 0 rfl rfl 4 (by decide) (hts _ q367) (fun _ h9 => h9) rfl (by decide +kernel) rfl rfl (Nat.le_of_ble_eq_true rfl) dX10_read_37 (fun H locs hP hD hS => ?_)
        obtain ⟨S_23, eS_23, hf⟩ := sm_lt_e hf
        have hP : PP g (WR g rd bk ad X S_23) H := by rw [eS_23]; exact prf4 hP
        have hD : va_D A (WR g rd bk ad X S_23) := by rw [eS_23]; exact drf4 hD
        refine lv_aload_n hx hb dX10_read_40 rfl (lv_at hl 1 rfl) ?_
        refine lv_iload_n hx hb dX10_read_41 rfl (lv_at hl 0 rfl) ?_
        obtain ⟨S_24, o_25, h_26, hf⟩ := sm_t_e hf
        rcases o_25 with r_27 | x_28
        rotate_left
        · dsimp only [Sum.elim_inr] at hf
          cases hf
          have hf := kr_8 _ (Option.some.inj hc_10).symm
          cases hf
          rw [← hQ]
          exact sm_throwOut (sm_runTV (As := [.int (S_5.1 2)]) (rest := []) ⟨hx, hb, hml, hown, hts⟩ (wX10_item l g rd bk ad X z A S_23 (S_5.1 2) _ (Sum.inr x_28) h_26) (cwV 1 hts (lw_V q562 q564 qs5 q71 q565) rfl rfl rfl (by decide +kernel) ⟨Nat.le_of_ble_eq_true rfl, Nat.le_of_ble_eq_true rfl⟩) (sm_pr hE hS hP hD hA hZ (va_recv hK hP (ci := 10) (q0 := 0) rfl rfl)) rfl rfl hl.1 rfl (lv_room (Nat.le_of_ble_eq_true rfl)) dX10_read_42 ⟨Nat.le_of_ble_eq_true rfl, Nat.le_of_ble_eq_true rfl⟩) hS hnh hlocks (fun _ _ _ h => h)
        dsimp only [Sum.elim_inl] at hf
        refine va_callv (va_runV (As := [.int (S_5.1 2)]) (rest := []) ⟨hx, hb, hml, hown, hts⟩ (wX10_item l g rd bk ad X z A S_23 (S_5.1 2) S_24 (Sum.inl r_27) h_26) (cwV 1 hts (lw_V q562 q564 qs5 q71 q565) rfl rfl rfl (by decide +kernel) ⟨Nat.le_of_ble_eq_true rfl, Nat.le_of_ble_eq_true rfl⟩) (sm_pr hE hS hP hD hA hZ (va_recv hK hP (ci := 10) (q0 := 0) rfl rfl)) rfl rfl hl.1 rfl (lv_room (Nat.le_of_ble_eq_true rfl)) dX10_read_42 ⟨Nat.le_of_ble_eq_true rfl, Nat.le_of_ble_eq_true rfl⟩) hS (fun _ _ h => h) (fun _ h => h) (fun u t H locs ht hvm er_29 hB hz hk hS => ?_)
        obtain ⟨hP, hD⟩ := hB
        rw [ht] at hP
        refine lv_aload_n hx hb dX10_read_45 rfl (lv_at hl 1 rfl) ?_
        refine lv_aload_n hx hb dX10_read_46 rfl (lv_at hl 1 rfl) ?_
        refine va_get (D := (g.1, g.2.1)) (ci := 10) (v := .int (S_24.1 2)) (C := RX10) (T := TX10) (N := 7) hx hb hts in_X10 hown hK hP 0 rfl rfl 2 (by decide) (hts _ q365) (fun _ h9 => h9) rfl dX10_read_47 ?_
        refine lv_bipush (v := 6) hx hb dX10_read_50 (by decide) ?_
        obtain ⟨x_30, hf, hf0⟩ := sm_b1_e hf
        suffices hj_31 : ∀ (ls : Array Slot), lv_has ls 2 [(1, .int (S_5.1 2)), (0, .ref rd)] → W p l e (rX10_read of) s m args below meth c H locs 0 0 Q (F0 m 60 ls [.int x_30, .ref rd]) from by
          refine lv_icmp_ne (tgt := 59) hx hb dX10_read_52 (by decide) (fun c_32 => ?_) (fun c_32 => ?_)
          · have hf := (if_neg c_32).symm.trans hf
            refine lv_iconst (v := 0) hx hb dX10_read_59 (by decide) ?_
            cases hf
            exact hj_31 _ (lv_sub hl [0, 1] rfl)
          · have hf := (if_pos c_32).symm.trans hf
            refine lv_iconst (v := 1) hx hb dX10_read_55 (by decide) ?_
            refine lv_goto (tgt := 60) hx hb dX10_read_56 (by decide) ?_
            cases hf
            exact hj_31 _ (lv_sub hl [0, 1] rfl)
        intro ls hl
        have hf := hf0
        obtain ⟨S_33, o_34, h_35, hf⟩ := sm_t_e hf
        rcases o_34 with r_36 | x_37
        rotate_left
        · dsimp only [Sum.elim_inr] at hf
          cases hf
          have hf := kr_8 _ (Option.some.inj hc_10).symm
          cases hf
          rw [← hQ]
          exact sm_throwOut (sm_runTV (As := [.int x_30]) (rest := []) ⟨hx, hb, hml, hown, hts⟩ (wX10_due l g rd bk ad X z A S_24 x_30 _ (Sum.inr x_37) h_35) (cwV 1 hts (lw_V q490 q492 qs3 q71 q493) rfl rfl rfl (by decide +kernel) ⟨Nat.le_of_ble_eq_true rfl, Nat.le_of_ble_eq_true rfl⟩) (sm_pr hE hS hP hD hA hZ (va_recv hK hP (ci := 10) (q0 := 0) rfl rfl)) rfl rfl hl.1 rfl (lv_room (Nat.le_of_ble_eq_true rfl)) dX10_read_60 ⟨Nat.le_of_ble_eq_true rfl, Nat.le_of_ble_eq_true rfl⟩) hS hnh hlocks (fun _ _ _ h => h)
        dsimp only [Sum.elim_inl] at hf
        refine va_calli (va_runV (As := [.int x_30]) (rest := []) ⟨hx, hb, hml, hown, hts⟩ (wX10_due l g rd bk ad X z A S_24 x_30 S_33 (Sum.inl r_36) h_35) (cwV 1 hts (lw_V q490 q492 qs3 q71 q493) rfl rfl rfl (by decide +kernel) ⟨Nat.le_of_ble_eq_true rfl, Nat.le_of_ble_eq_true rfl⟩) (sm_pr hE hS hP hD hA hZ (va_recv hK hP (ci := 10) (q0 := 0) rfl rfl)) rfl rfl hl.1 rfl (lv_room (Nat.le_of_ble_eq_true rfl)) dX10_read_60 ⟨Nat.le_of_ble_eq_true rfl, Nat.le_of_ble_eq_true rfl⟩) hS (fun _ _ h => h) (fun _ h => h) (fun r_39 u t H locs ht hvm er_38 hB hz hk hS => ?_)
        have er_38 := er_38.symm
        subst er_38
        obtain ⟨hP, hD⟩ := hB
        rw [ht] at hP
        refine lv_pop hx hb dX10_read_63 rfl ?_
        refine lv_aload_n hx hb dX10_read_64 rfl (lv_at hl 1 rfl) ?_
        refine va_get (D := (g.1, g.2.1)) (ci := 10) (v := .ref (bk 0)) (C := RX10) (T := TX10) (N := 7) hx hb hts in_X10 hown hK hP 0 rfl rfl 5 (by decide) (hts _ q368) (fun _ h9 => h9) rfl dX10_read_65 ?_
        refine lv_dup hx hb dX10_read_68 rfl ?_
        refine va_getN (D := (g.1, g.2.1)) (ci := 1) (v := .int (S_33.2.1 8)) (C := RX1) (T := TX1) (N := 9) hx hb hts in_X1 hown hK hP 1 rfl rfl 8 (by decide) (va_Nw.use rfl (hN _ q126 rfl)) (fun _ h9 => h9) rfl dX10_read_69 ?_
        refine lv_iconst (v := 1) hx hb dX10_read_72 (by decide) ?_
        refine lv_iadd hx hb dX10_read_73 ?_
        refine va_putN (D := (g.1, g.2.1)) (ci := 1) (v := .int ((S_33.2.1 8) + 1)) (ty := .int) (C := RX1) (T := TX1) (N := 9) hx hb hts in_X1 tyX1 tyX1_ok nmX1 hown hK hP hD hS 1 rfl rfl 8 (by decide) (va_Nw.use rfl (hN _ q126 rfl)) (fun _ h9 => h9) rfl (by decide +kernel) rfl rfl (Nat.le_of_ble_eq_true rfl) dX10_read_74 (fun H locs hP hD hS => ?_)
        obtain ⟨S_40, eS_40, hf⟩ := sm_lt_e hf
        have hP : PP g (WR g rd bk ad X S_40) H := by rw [eS_40]; exact prb8 hP
        have hD : va_D A (WR g rd bk ad X S_40) := by rw [eS_40]; exact drb8 hD
        refine lv_goto (tgt := 4) hx hb dX10_read_77 (by decide) ?_
        cases hf
        exact ih_6 _ _ _ _ _ hc_10 hP hD hS (lv_sub hl [1] rfl) kx_7 kr_8
  obtain ⟨o_41, ho, hf⟩ := sm_r_e hf
  refine L_11 FU S_1 o_41 H locs ls ho hP hD hS (lv_sub hl [0] rfl) ?_ ?_
  · intro S_42 H locs ls eo hP hD hS hl
    subst eo
    dsimp only [Sum.elim_inl, sm_u1] at hf
    refine lv_aload_n hx hb dX10_read_80 rfl (lv_at hl 0 rfl) ?_
    refine va_get (D := (g.1, g.2.1)) (ci := 10) (v := .ref (bk 0)) (C := RX10) (T := TX10) (N := 7) hx hb hts in_X10 hown hK hP 0 rfl rfl 5 (by decide) (hts _ q368) (fun _ h9 => h9) rfl dX10_read_81 ?_
    have hf := Option.some.inj hf
    cases hf
    rw [← hQ]
    exact W.aret (v := .ref (bk 0)) hx hb hr (Or.inl ⟨_, rfl⟩) (Or.inr ⟨_, rfl⟩) (fun t ht hW => ⟨⟨(), _, rfl, trivial, rfl, by rw [ht]; exact hP, hD⟩, hS.F ht⟩) hS.2.2 dX10_read_84
  · intro rv_43 eo
    subst eo
    have hf : some rv_43 = _ := hf
    have hf := Option.some.inj hf
    exact hf
