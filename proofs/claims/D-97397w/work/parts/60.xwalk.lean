/-! SmokedLetters, walked: printed by gen/xmain.py -/
set_option maxRecDepth 100000
abbrev rJ10_bitCount : Room := { frames := 0, cells := 0, slots := 0, locals := 0 }
set_option maxHeartbeats 4000000 in
theorem wJ10_bitCount (l : Launch) (a1 : Int32) (rf : Int32) (hf : fJ10_bitCount a1 = rf) : Met l yJ10_bitCount (ws_ yJ10_bitCount cJ10_bitCount 1 (some .int)) rJ10_bitCount (va_Pc [.int a1] (fun _ => True)) (vp_Si (fun y => y = rf)) 0 0 (fun _ => False) := by
  refine sm_st (by decide) ?_
  intro p e s m args below meth c hx hb hr hlocks hml hown hnm hts hv
  obtain ⟨hargs, -⟩ := hv
  have hown : s.vm.findClass RJ10 = some m.cls := hown
  refine sm_en _ (Nat.le_of_ble_eq_true rfl) hargs (fun ls hl => ?_)
  have hl : lv_has ls 1 [(0, .int a1)] := hl
  generalize hQ : MQ below _ args s _ _ _ = Q
  unfold fJ10_bitCount at hf
  refine lv_iload_n hx hb dJ10_bitCount_0 rfl (lv_at hl 0 rfl) ?_
  refine lv_iload_n hx hb dJ10_bitCount_1 rfl (lv_at hl 0 rfl) ?_
  refine lv_iconst (v := 1) hx hb dJ10_bitCount_2 (by decide) ?_
  refine lv_iushr hx hb dJ10_bitCount_3 rfl ?_
  refine lv_ldcw (v := 1431655765) hx hb hown (hts _ q656) dJ10_bitCount_4 ?_
  refine lv_iand hx hb dJ10_bitCount_7 ?_
  refine lv_isub hx hb dJ10_bitCount_8 ?_
  refine lv_topi (fun x_1 ex_1 => ?_)
  have hf := sm_lt_v hf ex_1
  refine lv_istore_n (lv' := [(0, .int x_1)]) hx hb dJ10_bitCount_9 rfl hl (by decide) rfl (fun ls hl => ?_)
  refine lv_iload_n hx hb dJ10_bitCount_10 rfl (lv_at hl 0 rfl) ?_
  refine lv_ldcw (v := 858993459) hx hb hown (hts _ q657) dJ10_bitCount_11 ?_
  refine lv_iand hx hb dJ10_bitCount_14 ?_
  refine lv_iload_n hx hb dJ10_bitCount_15 rfl (lv_at hl 0 rfl) ?_
  refine lv_iconst (v := 2) hx hb dJ10_bitCount_16 (by decide) ?_
  refine lv_iushr hx hb dJ10_bitCount_17 rfl ?_
  refine lv_ldcw (v := 858993459) hx hb hown (hts _ q657) dJ10_bitCount_18 ?_
  refine lv_iand hx hb dJ10_bitCount_21 ?_
  refine lv_iadd hx hb dJ10_bitCount_22 ?_
  refine lv_topi (fun x_2 ex_2 => ?_)
  have hf := sm_lt_v hf ex_2
  refine lv_istore_n (lv' := [(0, .int x_2)]) hx hb dJ10_bitCount_23 rfl hl (by decide) rfl (fun ls hl => ?_)
  refine lv_iload_n hx hb dJ10_bitCount_24 rfl (lv_at hl 0 rfl) ?_
  refine lv_iload_n hx hb dJ10_bitCount_25 rfl (lv_at hl 0 rfl) ?_
  refine lv_iconst (v := 4) hx hb dJ10_bitCount_26 (by decide) ?_
  refine lv_iushr hx hb dJ10_bitCount_27 rfl ?_
  refine lv_iadd hx hb dJ10_bitCount_28 ?_
  refine lv_ldcw (v := 252645135) hx hb hown (hts _ q658) dJ10_bitCount_29 ?_
  refine lv_iand hx hb dJ10_bitCount_32 ?_
  refine lv_topi (fun x_3 ex_3 => ?_)
  have hf := sm_lt_v hf ex_3
  refine lv_istore_n (lv' := [(0, .int x_3)]) hx hb dJ10_bitCount_33 rfl hl (by decide) rfl (fun ls hl => ?_)
  refine lv_iload_n hx hb dJ10_bitCount_34 rfl (lv_at hl 0 rfl) ?_
  refine lv_iload_n hx hb dJ10_bitCount_35 rfl (lv_at hl 0 rfl) ?_
  refine lv_bipush (v := 8) hx hb dJ10_bitCount_36 (by decide) ?_
  refine lv_iushr hx hb dJ10_bitCount_38 rfl ?_
  refine lv_iadd hx hb dJ10_bitCount_39 ?_
  refine lv_topi (fun x_4 ex_4 => ?_)
  have hf := sm_lt_v hf ex_4
  refine lv_istore_n (lv' := [(0, .int x_4)]) hx hb dJ10_bitCount_40 rfl hl (by decide) rfl (fun ls hl => ?_)
  refine lv_iload_n hx hb dJ10_bitCount_41 rfl (lv_at hl 0 rfl) ?_
  refine lv_iload_n hx hb dJ10_bitCount_42 rfl (lv_at hl 0 rfl) ?_
  refine lv_bipush (v := 16) hx hb dJ10_bitCount_43 (by decide) ?_
  refine lv_iushr hx hb dJ10_bitCount_45 rfl ?_
  refine lv_iadd hx hb dJ10_bitCount_46 ?_
  refine lv_topi (fun x_5 ex_5 => ?_)
  have hf := sm_lt_v hf ex_5
  refine lv_istore_n (lv' := [(0, .int x_5)]) hx hb dJ10_bitCount_47 rfl hl (by decide) rfl (fun ls hl => ?_)
  refine lv_iload_n hx hb dJ10_bitCount_48 rfl (lv_at hl 0 rfl) ?_
  refine lv_bipush (v := 63) hx hb dJ10_bitCount_49 (by decide) ?_
  refine lv_iand hx hb dJ10_bitCount_51 ?_
  rw [← hQ]
  exact W.iret (v := x_5 &&& 63) hx hb hr (fun t ht hW => ⟨_, rfl, hf, ht⟩) (fun _ h => by cases h) dJ10_bitCount_52
abbrev rJ10_numberOfTrailingZeros : Room := { frames := 0, cells := 0, slots := 0, locals := 0 }
set_option maxHeartbeats 4000000 in
theorem wJ10_numberOfTrailingZeros (l : Launch) (a1 : Int32) (rf : Int32) (hf : fJ10_numberOfTrailingZeros a1 = some rf) : Met l yJ10_numberOfTrailingZeros (ws_ yJ10_numberOfTrailingZeros cJ10_numberOfTrailingZeros 2 (some .int)) rJ10_numberOfTrailingZeros (va_Pc [.int a1] (fun _ => True)) (vp_Si (fun y => y = rf)) 0 0 (fun _ => False) := by
  refine sm_st (by decide) ?_
  intro p e s m args below meth c hx hb hr hlocks hml hown hnm hts hv
  obtain ⟨hargs, -⟩ := hv
  have hown : s.vm.findClass RJ10 = some m.cls := hown
  refine sm_en _ (Nat.le_of_ble_eq_true rfl) hargs (fun ls hl => ?_)
  have hl : lv_has ls 2 [(0, .int a1)] := hl
  generalize hQ : MQ below _ args s _ _ _ = Q
  unfold fJ10_numberOfTrailingZeros at hf
  refine lv_iload_n hx hb dJ10_numberOfTrailingZeros_0 rfl (lv_at hl 0 rfl) ?_
  refine lv_iconst (v := (-1)) hx hb dJ10_numberOfTrailingZeros_1 (by decide) ?_
  refine lv_ixor hx hb dJ10_numberOfTrailingZeros_2 ?_
  refine lv_iload_n hx hb dJ10_numberOfTrailingZeros_3 rfl (lv_at hl 0 rfl) ?_
  refine lv_iconst (v := 1) hx hb dJ10_numberOfTrailingZeros_4 (by decide) ?_
  refine lv_isub hx hb dJ10_numberOfTrailingZeros_5 ?_
  refine lv_iand hx hb dJ10_numberOfTrailingZeros_6 ?_
  refine lv_topi (fun x_1 ex_1 => ?_)
  have hf := sm_lt_v hf ex_1
  refine lv_istore_n (lv' := [(0, .int x_1)]) hx hb dJ10_numberOfTrailingZeros_7 rfl hl (by decide) rfl (fun ls hl => ?_)
  refine lv_iload_n hx hb dJ10_numberOfTrailingZeros_8 rfl (lv_at hl 0 rfl) ?_
  refine lv_if_gt (tgt := 17) hx hb dJ10_numberOfTrailingZeros_9 (by decide) (fun c_2 => ?_) (fun c_2 => ?_)
  · have hf := (if_pos c_2).symm.trans hf
    refine lv_iconst (v := 1) hx hb dJ10_numberOfTrailingZeros_17 (by decide) ?_
    refine lv_istore_n (lv' := [(1, .int 1), (0, .int x_1)]) hx hb dJ10_numberOfTrailingZeros_18 rfl hl (by decide) rfl (fun ls hl => ?_)
    refine lv_iload_n hx hb dJ10_numberOfTrailingZeros_19 rfl (lv_at hl 1 rfl) ?_
    refine lv_ldcw (v := 65536) hx hb hown (hts _ q776) dJ10_numberOfTrailingZeros_20 ?_
    obtain ⟨x_3, x_4, hf, hf0⟩ := sm_b2_e hf
    suffices hj_5 : ∀ (ls : Array Slot), lv_has ls 2 [(1, .int x_3), (0, .int x_4)] → W p l e rJ10_numberOfTrailingZeros s m args below meth c s.heap [] 0 0 Q (F0 m 34 ls []) from by
      refine lv_icmp_le (tgt := 34) hx hb dJ10_numberOfTrailingZeros_23 (by decide) (fun c_6 => ?_) (fun c_6 => ?_)
      · have hf := (if_pos c_6).symm.trans hf
        cases hf
        exact hj_5 _ (lv_sub hl [0, 1] rfl)
      · have hf := (if_neg c_6).symm.trans hf
        refine lv_iinc (v := 1 + 16) (lv' := [(1, .int (1 + 16)), (0, .int x_1)]) hx hb dJ10_numberOfTrailingZeros_26 hl (k := 0) rfl rfl (by decide) rfl (fun ls hl => ?_)
        refine lv_iload_n hx hb dJ10_numberOfTrailingZeros_29 rfl (lv_at hl 1 rfl) ?_
        refine lv_bipush (v := 16) hx hb dJ10_numberOfTrailingZeros_30 (by decide) ?_
        refine lv_iushr hx hb dJ10_numberOfTrailingZeros_32 rfl ?_
        refine lv_topi (fun x_7 ex_7 => ?_)
        have hf := sm_lt_v hf ex_7
        refine lv_istore_n (lv' := [(0, .int x_7), (1, .int (1 + 16))]) hx hb dJ10_numberOfTrailingZeros_33 rfl hl (by decide) rfl (fun ls hl => ?_)
        cases hf
        exact hj_5 _ (lv_sub hl [1, 0] rfl)
    intro ls hl
    have hf := hf0
    refine lv_iload_n hx hb dJ10_numberOfTrailingZeros_34 rfl (lv_at hl 1 rfl) ?_
    refine lv_sipush (v := 256) hx hb dJ10_numberOfTrailingZeros_35 (by decide) ?_
    obtain ⟨x_8, x_9, hf, hf0⟩ := sm_b2_e hf
    suffices hj_10 : ∀ (ls : Array Slot), lv_has ls 2 [(1, .int x_8), (0, .int x_9)] → W p l e rJ10_numberOfTrailingZeros s m args below meth c s.heap [] 0 0 Q (F0 m 49 ls []) from by
      refine lv_icmp_le (tgt := 49) hx hb dJ10_numberOfTrailingZeros_38 (by decide) (fun c_11 => ?_) (fun c_11 => ?_)
      · have hf := (if_pos c_11).symm.trans hf
        cases hf
        exact hj_10 _ (lv_sub hl [0, 1] rfl)
      · have hf := (if_neg c_11).symm.trans hf
        refine lv_iinc (v := x_3 + 8) (lv' := [(1, .int (x_3 + 8)), (0, .int x_4)]) hx hb dJ10_numberOfTrailingZeros_41 hl (k := 0) rfl rfl (by decide) rfl (fun ls hl => ?_)
        refine lv_iload_n hx hb dJ10_numberOfTrailingZeros_44 rfl (lv_at hl 1 rfl) ?_
        refine lv_bipush (v := 8) hx hb dJ10_numberOfTrailingZeros_45 (by decide) ?_
        refine lv_iushr hx hb dJ10_numberOfTrailingZeros_47 rfl ?_
        refine lv_topi (fun x_12 ex_12 => ?_)
        have hf := sm_lt_v hf ex_12
        refine lv_istore_n (lv' := [(0, .int x_12), (1, .int (x_3 + 8))]) hx hb dJ10_numberOfTrailingZeros_48 rfl hl (by decide) rfl (fun ls hl => ?_)
        cases hf
        exact hj_10 _ (lv_sub hl [1, 0] rfl)
    intro ls hl
    have hf := hf0
    refine lv_iload_n hx hb dJ10_numberOfTrailingZeros_49 rfl (lv_at hl 1 rfl) ?_
    refine lv_bipush (v := 16) hx hb dJ10_numberOfTrailingZeros_50 (by decide) ?_
    obtain ⟨x_13, x_14, hf, hf0⟩ := sm_b2_e hf
    suffices hj_15 : ∀ (ls : Array Slot), lv_has ls 2 [(1, .int x_13), (0, .int x_14)] → W p l e rJ10_numberOfTrailingZeros s m args below meth c s.heap [] 0 0 Q (F0 m 62 ls []) from by
      refine lv_icmp_le (tgt := 62) hx hb dJ10_numberOfTrailingZeros_52 (by decide) (fun c_16 => ?_) (fun c_16 => ?_)
      · have hf := (if_pos c_16).symm.trans hf
        cases hf
        exact hj_15 _ (lv_sub hl [0, 1] rfl)
      · have hf := (if_neg c_16).symm.trans hf
        refine lv_iinc (v := x_8 + 4) (lv' := [(1, .int (x_8 + 4)), (0, .int x_9)]) hx hb dJ10_numberOfTrailingZeros_55 hl (k := 0) rfl rfl (by decide) rfl (fun ls hl => ?_)
        refine lv_iload_n hx hb dJ10_numberOfTrailingZeros_58 rfl (lv_at hl 1 rfl) ?_
        refine lv_iconst (v := 4) hx hb dJ10_numberOfTrailingZeros_59 (by decide) ?_
        refine lv_iushr hx hb dJ10_numberOfTrailingZeros_60 rfl ?_
        refine lv_topi (fun x_17 ex_17 => ?_)
        have hf := sm_lt_v hf ex_17
        refine lv_istore_n (lv' := [(0, .int x_17), (1, .int (x_8 + 4))]) hx hb dJ10_numberOfTrailingZeros_61 rfl hl (by decide) rfl (fun ls hl => ?_)
        cases hf
        exact hj_15 _ (lv_sub hl [1, 0] rfl)
    intro ls hl
    have hf := hf0
    refine lv_iload_n hx hb dJ10_numberOfTrailingZeros_62 rfl (lv_at hl 1 rfl) ?_
    refine lv_iconst (v := 4) hx hb dJ10_numberOfTrailingZeros_63 (by decide) ?_
    refine lv_icmp_le (tgt := 74) hx hb dJ10_numberOfTrailingZeros_64 (by decide) (fun c_18 => ?_) (fun c_18 => ?_)
    · have hf := (if_pos c_18).symm.trans hf
      refine lv_iload_n hx hb dJ10_numberOfTrailingZeros_74 rfl (lv_at hl 0 rfl) ?_
      refine lv_iload_n hx hb dJ10_numberOfTrailingZeros_75 rfl (lv_at hl 1 rfl) ?_
      refine lv_iconst (v := 1) hx hb dJ10_numberOfTrailingZeros_76 (by decide) ?_
      refine lv_iushr hx hb dJ10_numberOfTrailingZeros_77 rfl ?_
      refine lv_iadd hx hb dJ10_numberOfTrailingZeros_78 ?_
      have hf := Option.some.inj hf
      rw [← hQ]
      exact W.iret (v := x_13 + ((x_14.toUInt32 >>> ((1 : Int32).toUInt32 &&& Int32.toUInt32 31)).toInt32)) hx hb hr (fun t ht hW => ⟨_, rfl, hf, ht⟩) (fun _ h => by cases h) dJ10_numberOfTrailingZeros_79
    · have hf := (if_neg c_18).symm.trans hf
      refine lv_iinc (v := x_13 + 2) (lv' := [(1, .int (x_13 + 2)), (0, .int x_14)]) hx hb dJ10_numberOfTrailingZeros_67 hl (k := 0) rfl rfl (by decide) rfl (fun ls hl => ?_)
      refine lv_iload_n hx hb dJ10_numberOfTrailingZeros_70 rfl (lv_at hl 1 rfl) ?_
      refine lv_iconst (v := 2) hx hb dJ10_numberOfTrailingZeros_71 (by decide) ?_
      refine lv_iushr hx hb dJ10_numberOfTrailingZeros_72 rfl ?_
      refine lv_topi (fun x_19 ex_19 => ?_)
      have hf := sm_lt_v hf ex_19
      refine lv_istore_n (lv' := [(0, .int x_19), (1, .int (x_13 + 2))]) hx hb dJ10_numberOfTrailingZeros_73 rfl hl (by decide) rfl (fun ls hl => ?_)
      refine lv_iload_n hx hb dJ10_numberOfTrailingZeros_74 rfl (lv_at hl 1 rfl) ?_
      refine lv_iload_n hx hb dJ10_numberOfTrailingZeros_75 rfl (lv_at hl 0 rfl) ?_
      refine lv_iconst (v := 1) hx hb dJ10_numberOfTrailingZeros_76 (by decide) ?_
      refine lv_iushr hx hb dJ10_numberOfTrailingZeros_77 rfl ?_
      refine lv_iadd hx hb dJ10_numberOfTrailingZeros_78 ?_
      have hf := Option.some.inj hf
      rw [← hQ]
      exact W.iret (v := (x_13 + 2) + ((x_19.toUInt32 >>> ((1 : Int32).toUInt32 &&& Int32.toUInt32 31)).toInt32)) hx hb hr (fun t ht hW => ⟨_, rfl, hf, ht⟩) (fun _ h => by cases h) dJ10_numberOfTrailingZeros_79
  · have hf := (if_neg c_2).symm.trans hf
    refine lv_iload_n hx hb dJ10_numberOfTrailingZeros_12 rfl (lv_at hl 0 rfl) ?_
    refine lv_bipush (v := 32) hx hb dJ10_numberOfTrailingZeros_13 (by decide) ?_
    refine lv_iand hx hb dJ10_numberOfTrailingZeros_15 ?_
    have hf := Option.some.inj hf
    rw [← hQ]
    exact W.iret (v := x_1 &&& 32) hx hb hr (fun t ht hW => ⟨_, rfl, hf, ht⟩) (fun _ h => by cases h) dJ10_numberOfTrailingZeros_16
abbrev rJ0_fill : Room := { frames := 0, cells := 0, slots := 0, locals := 0 }
set_option maxHeartbeats 4000000 in
theorem wJ0_fill (l : Launch) (g : GG) (a : Nat) (S : (Nat → Int32)) (a2 : Int32) (Sf : (Nat → Int32)) (hf : fJ0_fill S a2 = some Sf) : Met l yJ0_fill (ws_ yJ0_fill cJ0_fill 4 none) rJ0_fill (va_Pc [.ref a, .int a2] (fun Ux => PP g (WF g 0 6 a S) Ux.heap ∧ EV g Ux ∧ va_D (AF a) (WF g 0 6 a S))) (va_Qv (fun (_ : Unit) => True) (fun _ t => PP g (WF g 0 6 a Sf) t.heap ∧ va_D (AF a) (WF g 0 6 a Sf)) (AF a)) 0 0 (AF a) := by
  refine sm_st (by decide) ?_
  intro p e s m args below meth c hx hb hr hlocks hml hown hnm hts hv
  obtain ⟨hargs, hP, hE, hD⟩ := hv
  obtain ⟨hK, hN⟩ := id hE
  have hS : va_S (AF a) s.heap s.heap [] := va_S.rf
  have hown : s.vm.findClass RJ0 = some m.cls := hown
  refine sm_en _ (Nat.le_of_ble_eq_true rfl) hargs (fun ls hl => ?_)
  have hl : lv_has ls 4 [(0, .ref a), (1, .int a2)] := hl
  generalize hQ : MQ below _ args s _ _ _ = Q
  unfold fJ0_fill at hf
  refine lv_iconst (v := 0) hx hb dJ0_fill_0 (by decide) ?_
  refine lv_istore_n (lv' := [(2, .int 0), (0, .ref a), (1, .int a2)]) hx hb dJ0_fill_1 rfl hl (by decide) rfl (fun ls hl => ?_)
  refine lv_aload_n hx hb dJ0_fill_2 rfl (lv_at hl 1 rfl) ?_
  refine va_alen (v := 6) hx hb hK hP 0 0 rfl rfl rfl dJ0_fill_3 ?_
  refine lv_istore_n (lv' := [(3, .int 6), (2, .int 0), (0, .ref a), (1, .int a2)]) hx hb dJ0_fill_4 rfl hl (by decide) rfl (fun ls hl => ?_)
  have L_8 : ∀ (n : Nat) (x_1 : Int32) (S_2 : (Nat → Int32)) (o_9 : Int32) (o_10 : (Nat → Int32)) (H : Heap) (locs : List Loc) (ls : Array Slot), sm_lp (fun q => fJ0_fill_5 a2 q.1 q.2) n (x_1, S_2) = some (o_9, o_10) → PP g (WF g 0 6 a S_2) H → va_D (AF a) (WF g 0 6 a S_2) → va_S (AF a) s.heap H locs → lv_has ls 4 [(3, .int 6), (0, .ref a), (1, .int a2), (2, .int x_1)] → (∀ (H : Heap) (locs : List Loc) (ls : Array Slot), PP g (WF g 0 6 a o_10) H → va_D (AF a) (WF g 0 6 a o_10) → va_S (AF a) s.heap H locs → lv_has ls 4 [(3, .int 6), (0, .ref a), (1, .int a2), (2, .int o_9)] → W p l e rJ0_fill s m args below meth c H locs 0 0 Q (F0 m 20 ls [])) → W p l e rJ0_fill s m args below meth c H locs 0 0 Q (F0 m 5 ls []) := by
    intro n
    induction n with
    | zero =>
      intro _ _ _ _ _ _ _ hf
      cases hf
    | succ n ih_3 =>
      intro x_1 S_2 o_9 o_10 H locs ls hf hP hD hS hl kx_4
      obtain ⟨q, hf, hc_7⟩ := sm_bnd hf
      have hf : fJ0_fill_5 a2 x_1 S_2 = some q := hf
      unfold fJ0_fill_5 at hf
      refine lv_iload_n hx hb dJ0_fill_5 rfl (lv_at hl 3 rfl) ?_
      refine lv_iload_n hx hb dJ0_fill_6 rfl (lv_at hl 0 rfl) ?_
      refine lv_icmp_ge (tgt := 20) hx hb dJ0_fill_7 (by decide) (fun c_11 => ?_) (fun c_11 => ?_)
      · have hf := (if_pos c_11).symm.trans hf
        cases hf
        have hc_7 : some (x_1, S_2) = some (o_9, o_10) := hc_7
        cases hc_7
        exact kx_4 _ _ _ hP hD hS (lv_sub hl [0, 1, 2, 3] rfl)
      · have hf := (if_neg c_11).symm.trans hf
        refine lv_aload_n hx hb dJ0_fill_10 rfl (lv_at hl 1 rfl) ?_
        refine lv_iload_n hx hb dJ0_fill_11 rfl (lv_at hl 3 rfl) ?_
        refine lv_iload_n hx hb dJ0_fill_12 rfl (lv_at hl 2 rfl) ?_
        obtain ⟨hg, hf⟩ := sm_gd_e hf
        refine va_iast (i := x_1) (x := a2) hx hb hK hP hD hS 0 0 rfl rfl (sm_in hg) dJ0_fill_13 (fun H locs hP hD hS => ?_)
        obtain ⟨S_12, eS_12, hf⟩ := sm_lt_e hf
        have hP : PP g (WF g 0 6 a S_12) H := by rw [eS_12]; exact hP
        have hD : va_D (AF a) (WF g 0 6 a S_12) := by rw [eS_12]; exact hD
        refine lv_iinc (v := x_1 + 1) (lv' := [(2, .int (x_1 + 1)), (3, .int 6), (0, .ref a), (1, .int a2)]) hx hb dJ0_fill_14 hl (k := 3) rfl rfl (by decide) rfl (fun ls hl => ?_)
        refine lv_goto (tgt := 5) hx hb dJ0_fill_17 (by decide) ?_
        cases hf
        exact ih_3 _ _ _ _ _ _ _ hc_7 hP hD hS (lv_sub hl [1, 2, 3, 0] rfl) kx_4
  obtain ⟨x_14, S_15, ho, hf⟩ := sm_b2_e hf
  refine L_8 FU 0 S x_14 S_15 s.heap [] ls ho hP hD hS (lv_sub hl [0, 2, 3, 1] rfl) ?_
  intro H locs ls hP hD hS hl
  have hf := Option.some.inj hf
  rw [← hQ]
  exact W.vret hx hb hr (fun t ht hW => ⟨⟨(), rfl, trivial, by rw [ht, ← hf]; exact hP, by rw [← hf]; exact hD⟩, hS.F ht⟩) hS.2.2 dJ0_fill_20
abbrev rJ0_fill_2 : Room := { frames := 0, cells := 0, slots := 0, locals := 0 }
set_option maxHeartbeats 4000000 in
theorem wJ0_fill_2 (l : Launch) (g : GG) (a : Nat) (S : (Nat → Int32)) (a2 : Int32) (Sf : (Nat → Int32)) (hf : fJ0_fill_2 S a2 = some Sf) : Met l yJ0_fill_2 (ws_ yJ0_fill_2 cJ0_fill_2 4 none) rJ0_fill_2 (va_Pc [.ref a, .int a2] (fun Ux => PP g (WF g 2 2 a S) Ux.heap ∧ EV g Ux ∧ va_D (AF a) (WF g 2 2 a S))) (va_Qv (fun (_ : Unit) => True) (fun _ t => PP g (WF g 2 2 a Sf) t.heap ∧ va_D (AF a) (WF g 2 2 a Sf)) (AF a)) 0 0 (AF a) := by
  refine sm_st (by decide) ?_
  intro p e s m args below meth c hx hb hr hlocks hml hown hnm hts hv
  obtain ⟨hargs, hP, hE, hD⟩ := hv
  obtain ⟨hK, hN⟩ := id hE
  have hS : va_S (AF a) s.heap s.heap [] := va_S.rf
  have hown : s.vm.findClass RJ0 = some m.cls := hown
  refine sm_en _ (Nat.le_of_ble_eq_true rfl) hargs (fun ls hl => ?_)
  have hl : lv_has ls 4 [(0, .ref a), (1, .int a2)] := hl
  generalize hQ : MQ below _ args s _ _ _ = Q
  unfold fJ0_fill_2 at hf
  refine lv_iconst (v := 0) hx hb dJ0_fill_2_0 (by decide) ?_
  refine lv_istore_n (lv' := [(2, .int 0), (0, .ref a), (1, .int a2)]) hx hb dJ0_fill_2_1 rfl hl (by decide) rfl (fun ls hl => ?_)
  refine lv_aload_n hx hb dJ0_fill_2_2 rfl (lv_at hl 1 rfl) ?_
  refine va_alen (v := 2) hx hb hK hP 0 2 rfl rfl rfl dJ0_fill_2_3 ?_
  refine lv_istore_n (lv' := [(3, .int 2), (2, .int 0), (0, .ref a), (1, .int a2)]) hx hb dJ0_fill_2_4 rfl hl (by decide) rfl (fun ls hl => ?_)
  have L_8 : ∀ (n : Nat) (x_1 : Int32) (S_2 : (Nat → Int32)) (o_9 : Int32) (o_10 : (Nat → Int32)) (H : Heap) (locs : List Loc) (ls : Array Slot), sm_lp (fun q => fJ0_fill_2_5 a2 q.1 q.2) n (x_1, S_2) = some (o_9, o_10) → PP g (WF g 2 2 a S_2) H → va_D (AF a) (WF g 2 2 a S_2) → va_S (AF a) s.heap H locs → lv_has ls 4 [(3, .int 2), (0, .ref a), (1, .int a2), (2, .int x_1)] → (∀ (H : Heap) (locs : List Loc) (ls : Array Slot), PP g (WF g 2 2 a o_10) H → va_D (AF a) (WF g 2 2 a o_10) → va_S (AF a) s.heap H locs → lv_has ls 4 [(3, .int 2), (0, .ref a), (1, .int a2), (2, .int o_9)] → W p l e rJ0_fill_2 s m args below meth c H locs 0 0 Q (F0 m 20 ls [])) → W p l e rJ0_fill_2 s m args below meth c H locs 0 0 Q (F0 m 5 ls []) := by
    intro n
    induction n with
    | zero =>
      intro _ _ _ _ _ _ _ hf
      cases hf
    | succ n ih_3 =>
      intro x_1 S_2 o_9 o_10 H locs ls hf hP hD hS hl kx_4
      obtain ⟨q, hf, hc_7⟩ := sm_bnd hf
      have hf : fJ0_fill_2_5 a2 x_1 S_2 = some q := hf
      unfold fJ0_fill_2_5 at hf
      refine lv_iload_n hx hb dJ0_fill_2_5 rfl (lv_at hl 3 rfl) ?_
      refine lv_iload_n hx hb dJ0_fill_2_6 rfl (lv_at hl 0 rfl) ?_
      refine lv_icmp_ge (tgt := 20) hx hb dJ0_fill_2_7 (by decide) (fun c_11 => ?_) (fun c_11 => ?_)
      · have hf := (if_pos c_11).symm.trans hf
        cases hf
        have hc_7 : some (x_1, S_2) = some (o_9, o_10) := hc_7
        cases hc_7
        exact kx_4 _ _ _ hP hD hS (lv_sub hl [0, 1, 2, 3] rfl)
      · have hf := (if_neg c_11).symm.trans hf
        refine lv_aload_n hx hb dJ0_fill_2_10 rfl (lv_at hl 1 rfl) ?_
        refine lv_iload_n hx hb dJ0_fill_2_11 rfl (lv_at hl 3 rfl) ?_
        refine lv_iload_n hx hb dJ0_fill_2_12 rfl (lv_at hl 2 rfl) ?_
        obtain ⟨hg, hf⟩ := sm_gd_e hf
        refine va_zast (i := x_1) (x := a2) hx hb hK hP hD hS 0 2 rfl rfl (sm_in hg) dJ0_fill_2_13 (fun H locs hP hD hS => ?_)
        obtain ⟨S_12, eS_12, hf⟩ := sm_lt_e hf
        have hP : PP g (WF g 2 2 a S_12) H := by rw [eS_12]; exact hP
        have hD : va_D (AF a) (WF g 2 2 a S_12) := by rw [eS_12]; exact hD
        refine lv_iinc (v := x_1 + 1) (lv' := [(2, .int (x_1 + 1)), (3, .int 2), (0, .ref a), (1, .int a2)]) hx hb dJ0_fill_2_14 hl (k := 3) rfl rfl (by decide) rfl (fun ls hl => ?_)
        refine lv_goto (tgt := 5) hx hb dJ0_fill_2_17 (by decide) ?_
        cases hf
        exact ih_3 _ _ _ _ _ _ _ hc_7 hP hD hS (lv_sub hl [1, 2, 3, 0] rfl) kx_4
  obtain ⟨x_14, S_15, ho, hf⟩ := sm_b2_e hf
  refine L_8 FU 0 S x_14 S_15 s.heap [] ls ho hP hD hS (lv_sub hl [0, 2, 3, 1] rfl) ?_
  intro H locs ls hP hD hS hl
  have hf := Option.some.inj hf
  rw [← hQ]
  exact W.vret hx hb hr (fun t ht hW => ⟨⟨(), rfl, trivial, by rw [ht, ← hf]; exact hP, by rw [← hf]; exact hD⟩, hS.F ht⟩) hS.2.2 dJ0_fill_2_20
abbrev rX1_copied : Room := { frames := 0, cells := 0, slots := 0, locals := 0 }
set_option maxHeartbeats 4000000 in
theorem wX1_copied (l : Launch) (g : GG) (b : Nat → Nat) (S : BS) (a1 : Int32) (a2 : Int32) (rf : Int32) (hf : fX1_copied S a1 a2 = some rf) : Met l yX1_copied (ws_ yX1_copied cX1_copied 3 (some .int)) rX1_copied (va_Pc [.ref (b 0), .int a1, .int a2] (fun Ux => PP g (WB g b S) Ux.heap ∧ EV g Ux)) (vp_Si (fun y => y = rf)) 0 0 (fun _ => False) := by
  refine sm_st (by decide) ?_
  intro p e s m args below meth c hx hb hr hlocks hml hown hnm hts hv
  obtain ⟨hargs, hP, hE⟩ := hv
  obtain ⟨hK, hN⟩ := id hE
  have hown : s.vm.findClass RX1 = some m.cls := hown
  refine sm_en _ (Nat.le_of_ble_eq_true rfl) hargs (fun ls hl => ?_)
  have hl : lv_has ls 3 [(0, .ref (b 0)), (1, .int a1), (2, .int a2)] := hl
  generalize hQ : MQ below _ args s _ _ _ = Q
  unfold fX1_copied at hf
  refine lv_iload_n hx hb dX1_copied_0 rfl (lv_at hl 2 rfl) ?_
  refine lv_bipush (v := 10) hx hb dX1_copied_1 (by decide) ?_
  refine lv_icmp_eq (tgt := 20) hx hb dX1_copied_3 (by decide) (fun c_1 => ?_) (fun c_1 => ?_)
  · have hf := (if_pos c_1).symm.trans hf
    refine lv_bipush (v := 10) hx hb dX1_copied_20 (by decide) ?_
    have hf := Option.some.inj hf
    rw [← hQ]
    exact W.iret (v := 10) hx hb hr (fun t ht hW => ⟨_, rfl, hf, ht⟩) (fun _ h => by cases h) dX1_copied_22
  · have hf := (if_neg c_1).symm.trans hf
    refine lv_aload_n hx hb dX1_copied_6 rfl (lv_at hl 0 rfl) ?_
    refine va_get (D := (g.1, g.2.1)) (ci := 1) (v := .ref (b 4)) (C := RX1) (T := TX1) (N := 9) hx hb hts in_X1 hown hK hP 0 rfl rfl 3 (by decide) (hts _ q108) (fun _ h9 => h9) rfl dX1_copied_7 ?_
    refine lv_iload_n hx hb dX1_copied_10 rfl (lv_at hl 1 rfl) ?_
    obtain ⟨hg, hf⟩ := sm_gd_e hf
    refine va_iald hx hb hK hP 4 0 rfl rfl (sm_in hg) dX1_copied_11 ?_
    refine lv_iload_n hx hb dX1_copied_12 rfl (lv_at hl 2 rfl) ?_
    refine lv_ishr hx hb dX1_copied_13 ?_
    refine lv_iconst (v := 1) hx hb dX1_copied_14 (by decide) ?_
    refine lv_iand hx hb dX1_copied_15 ?_
    refine lv_iconst (v := 1) hx hb dX1_copied_16 (by decide) ?_
    refine lv_icmp_ne (tgt := 23) hx hb dX1_copied_17 (by decide) (fun c_2 => ?_) (fun c_2 => ?_)
    · have hf := (if_neg c_2).symm.trans hf
      refine lv_iload_n hx hb dX1_copied_23 rfl (lv_at hl 2 rfl) ?_
      refine lv_aload_n hx hb dX1_copied_24 rfl (lv_at hl 0 rfl) ?_
      refine va_get (D := (g.1, g.2.1)) (ci := 1) (v := .ref (b 5)) (C := RX1) (T := TX1) (N := 9) hx hb hts in_X1 hown hK hP 0 rfl rfl 4 (by decide) (hts _ q112) (fun _ h9 => h9) rfl dX1_copied_25 ?_
      refine lv_iload_n hx hb dX1_copied_28 rfl (lv_at hl 1 rfl) ?_
      obtain ⟨hg, hf⟩ := sm_gd_e hf
      refine va_iald hx hb hK hP 5 0 rfl rfl (sm_in hg) dX1_copied_29 ?_
      refine lv_icmp_ne (tgt := 42) hx hb dX1_copied_30 (by decide) (fun c_3 => ?_) (fun c_3 => ?_)
      · have hf := (if_neg c_3).symm.trans hf
        refine lv_iload_n hx hb dX1_copied_42 rfl (lv_at hl 2 rfl) ?_
        have hf := Option.some.inj hf
        rw [← hQ]
        exact W.iret (v := a2) hx hb hr (fun t ht hW => ⟨_, rfl, hf, ht⟩) (fun _ h => by cases h) dX1_copied_43
      · have hf := (if_pos c_3).symm.trans hf
        refine lv_aload_n hx hb dX1_copied_33 rfl (lv_at hl 0 rfl) ?_
        refine va_get (D := (g.1, g.2.1)) (ci := 1) (v := .ref (b 6)) (C := RX1) (T := TX1) (N := 9) hx hb hts in_X1 hown hK hP 0 rfl rfl 5 (by decide) (hts _ q116) (fun _ h9 => h9) rfl dX1_copied_34 ?_
        refine lv_iload_n hx hb dX1_copied_37 rfl (lv_at hl 1 rfl) ?_
        obtain ⟨hg, hf⟩ := sm_gd_e hf
        refine va_iald hx hb hK hP 6 0 rfl rfl (sm_in hg) dX1_copied_38 ?_
        refine lv_goto (tgt := 43) hx hb dX1_copied_39 (by decide) ?_
        have hf := Option.some.inj hf
        rw [← hQ]
        exact W.iret (v := S.2 5 a1.toNatClampNeg) hx hb hr (fun t ht hW => ⟨_, rfl, hf, ht⟩) (fun _ h => by cases h) dX1_copied_43
    · have hf := (if_pos c_2).symm.trans hf
      refine lv_bipush (v := 10) hx hb dX1_copied_20 (by decide) ?_
      have hf := Option.some.inj hf
      rw [← hQ]
      exact W.iret (v := 10) hx hb hr (fun t ht hW => ⟨_, rfl, hf, ht⟩) (fun _ h => by cases h) dX1_copied_22
abbrev rX1_isBoat : Room := { frames := 0, cells := 0, slots := 0, locals := 0 }
set_option maxHeartbeats 4000000 in
theorem wX1_isBoat (l : Launch) (g : GG) (b : Nat → Nat) (S : BS) (a1 : Int32) (rf : Int32) (hf : fX1_isBoat S a1 = some rf) : Met l yX1_isBoat (ws_ yX1_isBoat cX1_isBoat 2 (some .boolean)) rX1_isBoat (va_Pc [.ref (b 0), .int a1] (fun Ux => PP g (WB g b S) Ux.heap ∧ EV g Ux)) (vp_Si (fun y => y = rf)) 0 0 (fun _ => False) := by
  refine sm_st (by decide) ?_
  intro p e s m args below meth c hx hb hr hlocks hml hown hnm hts hv
  obtain ⟨hargs, hP, hE⟩ := hv
  obtain ⟨hK, hN⟩ := id hE
  have hown : s.vm.findClass RX1 = some m.cls := hown
  refine sm_en _ (Nat.le_of_ble_eq_true rfl) hargs (fun ls hl => ?_)
  have hl : lv_has ls 2 [(0, .ref (b 0)), (1, .int a1)] := hl
  generalize hQ : MQ below _ args s _ _ _ = Q
  unfold fX1_isBoat at hf
  refine lv_iload_n hx hb dX1_isBoat_0 rfl (lv_at hl 1 rfl) ?_
  refine lv_aload_n hx hb dX1_isBoat_1 rfl (lv_at hl 0 rfl) ?_
  refine va_get (D := (g.1, g.2.1)) (ci := 1) (v := .ref (b 1)) (C := RX1) (T := TX1) (N := 9) hx hb hts in_X1 hown hK hP 0 rfl rfl 0 (by decide) (hts _ q98) (fun _ h9 => h9) rfl dX1_isBoat_2 ?_
  refine lv_iconst (v := 2) hx hb dX1_isBoat_5 (by decide) ?_
  refine va_iald hx hb hK hP 1 0 rfl rfl (sm_in rfl) dX1_isBoat_6 ?_
  obtain ⟨hg, hf⟩ := sm_gd_e hf
  refine lv_irem hx hb dX1_isBoat_7 (sm_ne hg) ?_
  refine lv_if_ne (tgt := 15) hx hb dX1_isBoat_8 (by decide) (fun c_1 => ?_) (fun c_1 => ?_)
  · have hf := (if_neg c_1).symm.trans hf
    refine lv_iconst (v := 0) hx hb dX1_isBoat_15 (by decide) ?_
    have hf := Option.some.inj hf
    rw [← hQ]
    exact W.zret (v := 0) hx hb hr rfl (fun t ht hW => ⟨_, rfl, hf, ht⟩) (fun _ h => by cases h) dX1_isBoat_16
  · have hf := (if_pos c_1).symm.trans hf
    refine lv_iconst (v := 1) hx hb dX1_isBoat_11 (by decide) ?_
    refine lv_goto (tgt := 16) hx hb dX1_isBoat_12 (by decide) ?_
    have hf := Option.some.inj hf
    rw [← hQ]
    exact W.zret (v := 1) hx hb hr rfl (fun t ht hW => ⟨_, rfl, hf, ht⟩) (fun _ h => by cases h) dX1_isBoat_16
abbrev rX2_manyIn : Room := { frames := 0, cells := 0, slots := 0, locals := 0 }
set_option maxHeartbeats 4000000 in
theorem wX2_manyIn (l : Launch) (g : GG) (a : Nat → Nat) (S : IS) (a1 : Int32) (rf : Int32) (hf : fX2_manyIn S a1 = some rf) : Met l yX2_manyIn (ws_ yX2_manyIn cX2_manyIn 4 (some .int)) rX2_manyIn (va_Pc [.ref (a 0), .int a1] (fun Ux => PP g (WI g a S) Ux.heap ∧ EV g Ux)) (vp_Si (fun y => y = rf)) 0 0 (fun _ => False) := by
  refine sm_st (by decide) ?_
  intro p e s m args below meth c hx hb hr hlocks hml hown hnm hts hv
  obtain ⟨hargs, hP, hE⟩ := hv
  obtain ⟨hK, hN⟩ := id hE
  have hown : s.vm.findClass RX2 = some m.cls := hown
  refine sm_en _ (Nat.le_of_ble_eq_true rfl) hargs (fun ls hl => ?_)
  have hl : lv_has ls 4 [(0, .ref (a 0)), (1, .int a1)] := hl
  generalize hQ : MQ below _ args s _ _ _ = Q
  unfold fX2_manyIn at hf
  refine lv_iconst (v := 0) hx hb dX2_manyIn_0 (by decide) ?_
  refine lv_istore_n (lv' := [(2, .int 0), (0, .ref (a 0)), (1, .int a1)]) hx hb dX2_manyIn_1 rfl hl (by decide) rfl (fun ls hl => ?_)
  refine lv_iconst (v := 0) hx hb dX2_manyIn_2 (by decide) ?_
  refine lv_istore_n (lv' := [(3, .int 0), (2, .int 0), (0, .ref (a 0)), (1, .int a1)]) hx hb dX2_manyIn_3 rfl hl (by decide) rfl (fun ls hl => ?_)
  have L_8 : ∀ (n : Nat) (x_1 : Int32) (x_2 : Int32) (o_9 : Int32) (o_10 : Int32) (ls : Array Slot), sm_lp (fun q => fX2_manyIn_4 S a1 q.1 q.2) n (x_1, x_2) = some (o_9, o_10) → lv_has ls 4 [(0, .ref (a 0)), (1, .int a1), (3, .int x_1), (2, .int x_2)] → (∀ (ls : Array Slot), lv_has ls 4 [(0, .ref (a 0)), (1, .int a1), (3, .int o_9), (2, .int o_10)] → W p l e rX2_manyIn s m args below meth c s.heap [] 0 0 Q (F0 m 34 ls [])) → W p l e rX2_manyIn s m args below meth c s.heap [] 0 0 Q (F0 m 4 ls []) := by
    intro n
    induction n with
    | zero =>
      intro _ _ _ _ _ hf
      cases hf
    | succ n ih_3 =>
      intro x_1 x_2 o_9 o_10 ls hf hl kx_4
      obtain ⟨q, hf, hc_7⟩ := sm_bnd hf
      have hf : fX2_manyIn_4 S a1 x_1 x_2 = some q := hf
      unfold fX2_manyIn_4 at hf
      refine lv_iload_n hx hb dX2_manyIn_4 rfl (lv_at hl 2 rfl) ?_
      refine lv_bipush (v := 6) hx hb dX2_manyIn_5 (by decide) ?_
      refine lv_icmp_ge (tgt := 34) hx hb dX2_manyIn_7 (by decide) (fun c_11 => ?_) (fun c_11 => ?_)
      · have hf := (if_pos c_11).symm.trans hf
        cases hf
        have hc_7 : some (x_1, x_2) = some (o_9, o_10) := hc_7
        cases hc_7
        exact kx_4 _ (lv_sub hl [0, 1, 2, 3] rfl)
      · have hf := (if_neg c_11).symm.trans hf
        refine lv_iload_n hx hb dX2_manyIn_10 rfl (lv_at hl 3 rfl) ?_
        refine lv_aload_n hx hb dX2_manyIn_11 rfl (lv_at hl 0 rfl) ?_
        refine va_get (D := (g.1, g.2.1)) (ci := 2) (v := .ref (a 1)) (C := RX2) (T := TX2) (N := 7) hx hb hts in_X2 hown hK hP 0 rfl rfl 3 (by decide) (hts _ q167) (fun _ h9 => h9) rfl dX2_manyIn_12 ?_
        refine lv_iload_n hx hb dX2_manyIn_15 rfl (lv_at hl 2 rfl) ?_
        obtain ⟨hg, hf⟩ := sm_gd_e hf
        refine va_iald hx hb hK hP 1 0 rfl rfl (sm_in hg) dX2_manyIn_16 ?_
        refine lv_iload_n hx hb dX2_manyIn_17 rfl (lv_at hl 1 rfl) ?_
        refine lv_icmp_ne (tgt := 25) hx hb dX2_manyIn_18 (by decide) (fun c_12 => ?_) (fun c_12 => ?_)
        · have hf := (if_neg c_12).symm.trans hf
          refine lv_iconst (v := 0) hx hb dX2_manyIn_25 (by decide) ?_
          refine lv_iadd hx hb dX2_manyIn_26 ?_
          refine lv_istore_n (lv' := [(2, .int (x_2 + 0)), (0, .ref (a 0)), (1, .int a1), (3, .int x_1)]) hx hb dX2_manyIn_27 rfl hl (by decide) rfl (fun ls hl => ?_)
          refine lv_iinc (v := x_1 + 1) (lv' := [(3, .int (x_1 + 1)), (2, .int (x_2 + 0)), (0, .ref (a 0)), (1, .int a1)]) hx hb dX2_manyIn_28 hl (k := 3) rfl rfl (by decide) rfl (fun ls hl => ?_)
          refine lv_goto (tgt := 4) hx hb dX2_manyIn_31 (by decide) ?_
          cases hf
          exact ih_3 _ _ _ _ _ hc_7 (lv_sub hl [2, 3, 0, 1] rfl) kx_4
        · have hf := (if_pos c_12).symm.trans hf
          refine lv_iconst (v := 1) hx hb dX2_manyIn_21 (by decide) ?_
          refine lv_goto (tgt := 26) hx hb dX2_manyIn_22 (by decide) ?_
          refine lv_iadd hx hb dX2_manyIn_26 ?_
          refine lv_istore_n (lv' := [(2, .int (x_2 + 1)), (0, .ref (a 0)), (1, .int a1), (3, .int x_1)]) hx hb dX2_manyIn_27 rfl hl (by decide) rfl (fun ls hl => ?_)
          refine lv_iinc (v := x_1 + 1) (lv' := [(3, .int (x_1 + 1)), (2, .int (x_2 + 1)), (0, .ref (a 0)), (1, .int a1)]) hx hb dX2_manyIn_28 hl (k := 3) rfl rfl (by decide) rfl (fun ls hl => ?_)
          refine lv_goto (tgt := 4) hx hb dX2_manyIn_31 (by decide) ?_
          cases hf
          exact ih_3 _ _ _ _ _ hc_7 (lv_sub hl [2, 3, 0, 1] rfl) kx_4
  obtain ⟨x_14, x_15, ho, hf⟩ := sm_b2_e hf
  refine L_8 FU 0 0 x_14 x_15 ls ho (lv_sub hl [2, 3, 0, 1] rfl) ?_
  intro ls hl
  refine lv_iload_n hx hb dX2_manyIn_34 rfl (lv_at hl 3 rfl) ?_
  have hf := Option.some.inj hf
  rw [← hQ]
  exact W.iret (v := x_15) hx hb hr (fun t ht hW => ⟨_, rfl, hf, ht⟩) (fun _ h => by cases h) dX2_manyIn_35
abbrev rX2_put : Room := { frames := 1, cells := 0, slots := 0, locals := 23 }
set_option maxHeartbeats 4000000 in
theorem wX2_put (l : Launch) (g : GG) (a : Nat → Nat) (S : IS) (a1 : Int32) (a2 : Int32) (Sf : IS) (rf : Int32) (hf : fX2_put S a1 a2 = some (Sf, rf)) : Met l yX2_put (ws_ yX2_put cX2_put 4 (some .int)) rX2_put (va_Pc [.ref (a 0), .int a1, .int a2] (fun Ux => PP g (WI g a S) Ux.heap ∧ EV g Ux ∧ va_D (AI a) (WI g a S))) (va_Qi (fun y (_ : Unit) => y = rf) (fun _ t => PP g (WI g a Sf) t.heap ∧ va_D (AI a) (WI g a Sf)) (AI a)) 0 0 (AI a) := by
  refine sm_st (by decide) ?_
  intro p e s m args below meth c hx hb hr hlocks hml hown hnm hts hv
  obtain ⟨hargs, hP, hE, hD⟩ := hv
  obtain ⟨hK, hN⟩ := id hE
  have hS : va_S (AI a) s.heap s.heap [] := va_S.rf
  have hown : s.vm.findClass RX2 = some m.cls := hown
  refine sm_en _ (Nat.le_of_ble_eq_true rfl) hargs (fun ls hl => ?_)
  have hl : lv_has ls 4 [(0, .ref (a 0)), (1, .int a1), (2, .int a2)] := hl
  generalize hQ : MQ below _ args s _ _ _ = Q
  unfold fX2_put at hf
  refine lv_aload_n hx hb dX2_put_0 rfl (lv_at hl 0 rfl) ?_
  refine va_get (D := (g.1, g.2.1)) (ci := 2) (v := .ref (a 1)) (C := RX2) (T := TX2) (N := 7) hx hb hts in_X2 hown hK hP 0 rfl rfl 3 (by decide) (hts _ q167) (fun _ h9 => h9) rfl dX2_put_1 ?_
  refine lv_iload_n hx hb dX2_put_4 rfl (lv_at hl 1 rfl) ?_
  refine lv_iload_n hx hb dX2_put_5 rfl (lv_at hl 2 rfl) ?_
  obtain ⟨hg, hf⟩ := sm_gd_e hf
  refine va_iast (i := a1) (x := a2) hx hb hK hP hD hS 1 0 rfl rfl (sm_in hg) dX2_put_6 (fun H locs hP hD hS => ?_)
  obtain ⟨S_1, eS_1, hf⟩ := sm_lt_e hf
  have hP : PP g (WI g a S_1) H := by rw [eS_1]; exact pir3 hP
  have hD : va_D (AI a) (WI g a S_1) := by rw [eS_1]; exact dir3 hD
  refine lv_iconst (v := 0) hx hb dX2_put_7 (by decide) ?_
  refine lv_istore_n (lv' := [(3, .int 0), (0, .ref (a 0)), (1, .int a1), (2, .int a2)]) hx hb dX2_put_8 rfl hl (by decide) rfl (fun ls hl => ?_)
  have L_9 : ∀ (n : Nat) (x_2 : Int32) (S_3 : IS) (o_10 : Int32) (o_11 : IS) (H : Heap) (locs : List Loc) (ls : Array Slot), sm_lp (fun q => fX2_put_9 a2 q.1 q.2) n (x_2, S_3) = some (o_10, o_11) → PP g (WI g a S_3) H → va_D (AI a) (WI g a S_3) → va_S (AI a) s.heap H locs → lv_has ls 4 [(0, .ref (a 0)), (1, .int a1), (2, .int a2), (3, .int x_2)] → (∀ (H : Heap) (locs : List Loc) (ls : Array Slot), PP g (WI g a o_11) H → va_D (AI a) (WI g a o_11) → va_S (AI a) s.heap H locs → lv_has ls 4 [(0, .ref (a 0)), (1, .int a1), (2, .int a2), (3, .int o_10)] → W p l e rX2_put s m args below meth c H locs 0 0 Q (F0 m 47 ls [])) → W p l e rX2_put s m args below meth c H locs 0 0 Q (F0 m 9 ls []) := by
    intro n
    induction n with
    | zero =>
      intro _ _ _ _ _ _ _ hf
      cases hf
    | succ n ih_4 =>
      intro x_2 S_3 o_10 o_11 H locs ls hf hP hD hS hl kx_5
      obtain ⟨q, hf, hc_8⟩ := sm_bnd hf
      have hf : fX2_put_9 a2 x_2 S_3 = some q := hf
      unfold fX2_put_9 at hf
      refine lv_iload_n hx hb dX2_put_9 rfl (lv_at hl 3 rfl) ?_
      refine lv_bipush (v := 6) hx hb dX2_put_10 (by decide) ?_
      refine lv_icmp_ge (tgt := 47) hx hb dX2_put_12 (by decide) (fun c_12 => ?_) (fun c_12 => ?_)
      · have hf := (if_pos c_12).symm.trans hf
        cases hf
        have hc_8 : some (x_2, S_3) = some (o_10, o_11) := hc_8
        cases hc_8
        exact kx_5 _ _ _ hP hD hS (lv_sub hl [0, 1, 2, 3] rfl)
      · have hf := (if_neg c_12).symm.trans hf
        refine lv_aload_n hx hb dX2_put_15 rfl (lv_at hl 0 rfl) ?_
        refine va_get (D := (g.1, g.2.1)) (ci := 2) (v := .ref (a 2)) (C := RX2) (T := TX2) (N := 7) hx hb hts in_X2 hown hK hP 0 rfl rfl 4 (by decide) (hts _ q169) (fun _ h9 => h9) rfl dX2_put_16 ?_
        refine lv_iload_n hx hb dX2_put_19 rfl (lv_at hl 3 rfl) ?_
        refine lv_aload_n hx hb dX2_put_20 rfl (lv_at hl 0 rfl) ?_
        refine va_get (D := (g.1, g.2.1)) (ci := 2) (v := .ref (a 1)) (C := RX2) (T := TX2) (N := 7) hx hb hts in_X2 hown hK hP 0 rfl rfl 3 (by decide) (hts _ q167) (fun _ h9 => h9) rfl dX2_put_21 ?_
        refine lv_iload_n hx hb dX2_put_24 rfl (lv_at hl 3 rfl) ?_
        obtain ⟨hg, hf⟩ := sm_gd_e hf
        refine va_iald hx hb hK hP 1 0 rfl rfl (sm_in hg) dX2_put_25 ?_
        refine lv_iload_n hx hb dX2_put_26 rfl (lv_at hl 2 rfl) ?_
        obtain ⟨x_13, hf, hf0⟩ := sm_b1_e hf
        suffices hj_14 : ∀ (ls : Array Slot), lv_has ls 4 [(0, .ref (a 0)), (1, .int a1), (2, .int a2), (3, .int x_2)] → W p l e rX2_put s m args below meth c H locs 0 0 Q (F0 m 40 ls [.int x_13, .int x_2, .ref (a 2)]) from by
          refine lv_icmp_ne (tgt := 34) hx hb dX2_put_27 (by decide) (fun c_15 => ?_) (fun c_15 => ?_)
          · have hf := (if_neg c_15).symm.trans hf
            refine lv_aload_n hx hb dX2_put_34 rfl (lv_at hl 0 rfl) ?_
            refine va_get (D := (g.1, g.2.1)) (ci := 2) (v := .ref (a 2)) (C := RX2) (T := TX2) (N := 7) hx hb hts in_X2 hown hK hP 0 rfl rfl 4 (by decide) (hts _ q169) (fun _ h9 => h9) rfl dX2_put_35 ?_
            refine lv_iload_n hx hb dX2_put_38 rfl (lv_at hl 3 rfl) ?_
            obtain ⟨hg, hf⟩ := sm_gd_e hf
            refine va_iald hx hb hK hP 2 0 rfl rfl (sm_in hg) dX2_put_39 ?_
            cases hf
            exact hj_14 _ (lv_sub hl [0, 1, 2, 3] rfl)
          · have hf := (if_pos c_15).symm.trans hf
            refine lv_iconst (v := 0) hx hb dX2_put_30 (by decide) ?_
            refine lv_goto (tgt := 40) hx hb dX2_put_31 (by decide) ?_
            cases hf
            exact hj_14 _ (lv_sub hl [0, 1, 2, 3] rfl)
        intro ls hl
        have hf := hf0
        obtain ⟨hg, hf⟩ := sm_gd_e hf
        refine va_iast (i := x_2) (x := x_13) hx hb hK hP hD hS 2 0 rfl rfl (sm_in hg) dX2_put_40 (fun H locs hP hD hS => ?_)
        obtain ⟨S_16, eS_16, hf⟩ := sm_lt_e hf
        have hP : PP g (WI g a S_16) H := by rw [eS_16]; exact pir4 hP
        have hD : va_D (AI a) (WI g a S_16) := by rw [eS_16]; exact dir4 hD
        refine lv_iinc (v := x_2 + 1) (lv' := [(3, .int (x_2 + 1)), (0, .ref (a 0)), (1, .int a1), (2, .int a2)]) hx hb dX2_put_41 hl (k := 3) rfl rfl (by decide) rfl (fun ls hl => ?_)
        refine lv_goto (tgt := 9) hx hb dX2_put_44 (by decide) ?_
        cases hf
        exact ih_4 _ _ _ _ _ _ _ hc_8 hP hD hS (lv_sub hl [1, 2, 3, 0] rfl) kx_5
  obtain ⟨x_18, S_19, ho, hf⟩ := sm_b2_e hf
  refine L_9 FU 0 S_1 x_18 S_19 H locs ls ho hP hD hS (lv_sub hl [1, 2, 3, 0] rfl) ?_
  intro H locs ls hP hD hS hl
  refine lv_aload_n hx hb dX2_put_47 rfl (lv_at hl 0 rfl) ?_
  refine lv_iload_n hx hb dX2_put_48 rfl (lv_at hl 2 rfl) ?_
  obtain ⟨r_20, h_21, hf⟩ := sm_b1_e hf
  refine vp_callSi (W.runV (As := [.int a2]) (rest := []) ⟨hx, hb, hml, hown, hts⟩ (wX2_manyIn l g a S_19 a2 r_20 h_21) (cwV 1 hts (lw_V q632 q633 q634 q62 q635) rfl rfl rfl (by decide +kernel) ⟨Nat.le_of_ble_eq_true rfl, Nat.le_of_ble_eq_true rfl⟩) (sm_pv hE hP (va_recv hK hP (ci := 2) (q0 := 0) rfl rfl)) rfl rfl hl.1 rfl (lv_room (Nat.le_of_ble_eq_true rfl)) dX2_put_49 ⟨Nat.le_of_ble_eq_true rfl, Nat.le_of_ble_eq_true rfl⟩) (fun r_23 er_22 => ?_)
  have er_22 := er_22.symm
  subst er_22
  have hf := Option.some.inj hf
  rw [← hQ]
  have hf := Prod.mk.inj hf
  exact W.iret (v := r_20) hx hb hr (fun t ht hW => ⟨⟨_, (), rfl, hf.2, by rw [ht, ← hf.1]; exact hP, by rw [← hf.1]; exact hD⟩, hS.F ht⟩) hS.2.2 dX2_put_52
abbrev rX2_sail : Room := { frames := 0, cells := 0, slots := 0, locals := 0 }
set_option maxHeartbeats 4000000 in
theorem wX2_sail (l : Launch) (g : GG) (a : Nat → Nat) (S : IS) (a1 : Int32) (Sf : IS) (hf : fX2_sail S a1 = some Sf) : Met l yX2_sail (ws_ yX2_sail cX2_sail 2 none) rX2_sail (va_Pc [.ref (a 0), .int a1] (fun Ux => PP g (WI g a S) Ux.heap ∧ EV g Ux ∧ va_D (AI a) (WI g a S))) (va_Qv (fun (_ : Unit) => True) (fun _ t => PP g (WI g a Sf) t.heap ∧ va_D (AI a) (WI g a Sf)) (AI a)) 0 0 (AI a) := by
  refine sm_st (by decide) ?_
  intro p e s m args below meth c hx hb hr hlocks hml hown hnm hts hv
  obtain ⟨hargs, hP, hE, hD⟩ := hv
  obtain ⟨hK, hN⟩ := id hE
  have hS : va_S (AI a) s.heap s.heap [] := va_S.rf
  have hown : s.vm.findClass RX2 = some m.cls := hown
  refine sm_en _ (Nat.le_of_ble_eq_true rfl) hargs (fun ls hl => ?_)
  have hl : lv_has ls 2 [(0, .ref (a 0)), (1, .int a1)] := hl
  generalize hQ : MQ below _ args s _ _ _ = Q
  unfold fX2_sail at hf
  refine lv_aload_n hx hb dX2_sail_0 rfl (lv_at hl 0 rfl) ?_
  refine va_get (D := (g.1, g.2.1)) (ci := 2) (v := .ref (a 1)) (C := RX2) (T := TX2) (N := 7) hx hb hts in_X2 hown hK hP 0 rfl rfl 3 (by decide) (hts _ q167) (fun _ h9 => h9) rfl dX2_sail_1 ?_
  refine lv_iload_n hx hb dX2_sail_4 rfl (lv_at hl 1 rfl) ?_
  refine lv_bipush (v := (-9)) hx hb dX2_sail_5 (by decide) ?_
  obtain ⟨hg, hf⟩ := sm_gd_e hf
  refine va_iast (i := a1) (x := (-9)) hx hb hK hP hD hS 1 0 rfl rfl (sm_in hg) dX2_sail_7 (fun H locs hP hD hS => ?_)
  obtain ⟨S_1, eS_1, hf⟩ := sm_lt_e hf
  have hP : PP g (WI g a S_1) H := by rw [eS_1]; exact pir3 hP
  have hD : va_D (AI a) (WI g a S_1) := by rw [eS_1]; exact dir3 hD
  refine lv_aload_n hx hb dX2_sail_8 rfl (lv_at hl 0 rfl) ?_
  refine lv_dup hx hb dX2_sail_9 rfl ?_
  refine va_get (D := (g.1, g.2.1)) (ci := 2) (v := .int (S_1.1 2)) (C := RX2) (T := TX2) (N := 7) hx hb hts in_X2 hown hK hP 0 rfl rfl 2 (by decide) (hts _ q164) (fun _ h9 => h9) rfl dX2_sail_10 ?_
  refine lv_iconst (v := 1) hx hb dX2_sail_13 (by decide) ?_
  refine lv_iload_n hx hb dX2_sail_14 rfl (lv_at hl 1 rfl) ?_
  refine lv_ishl hx hb dX2_sail_15 ?_
  refine lv_ior hx hb dX2_sail_16 ?_
  refine va_put (D := (g.1, g.2.1)) (ci := 2) (v := .int ((S_1.1 2) ||| (1 <<< (a1 &&& 31)))) (ty := .int) (C := RX2) (T := TX2) (N := 7) hx hb hts in_X2 tyX2 tyX2_ok nmX2 hown hK hP hD hS 0 rfl rfl 2 (by decide) (hts _ q164) (fun _ h9 => h9) rfl (by decide +kernel) rfl rfl (Nat.le_of_ble_eq_true rfl) dX2_sail_17 (fun H locs hP hD hS => ?_)
  obtain ⟨S_2, eS_2, hf⟩ := sm_lt_e hf
  have hP : PP g (WI g a S_2) H := by rw [eS_2]; exact pif2 hP
  have hD : va_D (AI a) (WI g a S_2) := by rw [eS_2]; exact dif2 hD
  have hf := Option.some.inj hf
  rw [← hQ]
  exact W.vret hx hb hr (fun t ht hW => ⟨⟨(), rfl, trivial, by rw [ht, ← hf]; exact hP, by rw [← hf]; exact hD⟩, hS.F ht⟩) hS.2.2 dX2_sail_20
abbrev rX2_begin : Room := { frames := 1, cells := 0, slots := 0, locals := 23 }
set_option maxHeartbeats 4000000 in
theorem wX2_begin (l : Launch) (g : GG) (a : Nat → Nat) (S : IS) (Sf : IS) (hf : fX2_begin S = some Sf) : Met l yX2_begin (ws_ yX2_begin cX2_begin 1 none) rX2_begin (va_Pc [.ref (a 0)] (fun Ux => PP g (WI g a S) Ux.heap ∧ EV g Ux ∧ va_D (AI a) (WI g a S))) (va_Qv (fun (_ : Unit) => True) (fun _ t => PP g (WI g a Sf) t.heap ∧ va_D (AI a) (WI g a Sf)) (AI a)) 0 0 (AI a) := by
  refine sm_st (by decide) ?_
  intro p e s m args below meth c hx hb hr hlocks hml hown hnm hts hv
  obtain ⟨hargs, hP, hE, hD⟩ := hv
  obtain ⟨hK, hN⟩ := id hE
  have hS : va_S (AI a) s.heap s.heap [] := va_S.rf
  have hown : s.vm.findClass RX2 = some m.cls := hown
  refine sm_en _ (Nat.le_of_ble_eq_true rfl) hargs (fun ls hl => ?_)
  have hl : lv_has ls 1 [(0, .ref (a 0))] := hl
  generalize hQ : MQ below _ args s _ _ _ = Q
  unfold fX2_begin at hf
  refine lv_aload_n hx hb dX2_begin_0 rfl (lv_at hl 0 rfl) ?_
  refine lv_iconst (v := 0) hx hb dX2_begin_1 (by decide) ?_
  refine va_put (D := (g.1, g.2.1)) (ci := 2) (v := .int 0) (ty := .int) (C := RX2) (T := TX2) (N := 7) hx hb hts in_X2 tyX2 tyX2_ok nmX2 hown hK hP hD hS 0 rfl rfl 0 (by decide) (hts _ q160) (fun _ h9 => h9) rfl (by decide +kernel) rfl rfl (Nat.le_of_ble_eq_true rfl) dX2_begin_2 (fun H locs hP hD hS => ?_)
  obtain ⟨S_1, eS_1, hf⟩ := sm_lt_e hf
  have hP : PP g (WI g a S_1) H := by rw [eS_1]; exact pif0 hP
  have hD : va_D (AI a) (WI g a S_1) := by rw [eS_1]; exact dif0 hD
  refine lv_aload_n hx hb dX2_begin_5 rfl (lv_at hl 0 rfl) ?_
  refine lv_iconst (v := 0) hx hb dX2_begin_6 (by decide) ?_
  refine va_put (D := (g.1, g.2.1)) (ci := 2) (v := .int 0) (ty := .int) (C := RX2) (T := TX2) (N := 7) hx hb hts in_X2 tyX2 tyX2_ok nmX2 hown hK hP hD hS 0 rfl rfl 1 (by decide) (hts _ q162) (fun _ h9 => h9) rfl (by decide +kernel) rfl rfl (Nat.le_of_ble_eq_true rfl) dX2_begin_7 (fun H locs hP hD hS => ?_)
  obtain ⟨S_2, eS_2, hf⟩ := sm_lt_e hf
  have hP : PP g (WI g a S_2) H := by rw [eS_2]; exact pif1 hP
  have hD : va_D (AI a) (WI g a S_2) := by rw [eS_2]; exact dif1 hD
  refine lv_aload_n hx hb dX2_begin_10 rfl (lv_at hl 0 rfl) ?_
  refine lv_iconst (v := 0) hx hb dX2_begin_11 (by decide) ?_
  refine va_put (D := (g.1, g.2.1)) (ci := 2) (v := .int 0) (ty := .int) (C := RX2) (T := TX2) (N := 7) hx hb hts in_X2 tyX2 tyX2_ok nmX2 hown hK hP hD hS 0 rfl rfl 2 (by decide) (hts _ q164) (fun _ h9 => h9) rfl (by decide +kernel) rfl rfl (Nat.le_of_ble_eq_true rfl) dX2_begin_12 (fun H locs hP hD hS => ?_)
  obtain ⟨S_3, eS_3, hf⟩ := sm_lt_e hf
  have hP : PP g (WI g a S_3) H := by rw [eS_3]; exact pif2 hP
  have hD : va_D (AI a) (WI g a S_3) := by rw [eS_3]; exact dif2 hD
  refine lv_aload_n hx hb dX2_begin_15 rfl (lv_at hl 0 rfl) ?_
  refine va_get (D := (g.1, g.2.1)) (ci := 2) (v := .ref (a 1)) (C := RX2) (T := TX2) (N := 7) hx hb hts in_X2 hown hK hP 0 rfl rfl 3 (by decide) (hts _ q167) (fun _ h9 => h9) rfl dX2_begin_16 ?_
  refine lv_bipush (v := (-9)) hx hb dX2_begin_19 (by decide) ?_
  obtain ⟨f_4, h_5, hf⟩ := sm_b1_e hf
  refine va_callv (va_runS (As := [.ref (a 1), .int (-9)]) (rest := []) ⟨hx, hb, hml, hown, hts⟩ (wJ0_fill l g (a 1) (S_3.2 3) (-9) f_4 h_5) (va_cwS 2 hts (lw_S q157 q158 q63 q159) rfl rfl rfl (by decide +kernel) ⟨Nat.le_of_ble_eq_true rfl, Nat.le_of_ble_eq_true rfl⟩) (sm_psD hE (hP.sub (ws' := WF g 0 6 (a 1) (S_3.2 3)) [1] rfl) sm_dF) rfl rfl hl.1 rfl (lv_room (Nat.le_of_ble_eq_true rfl)) dX2_begin_21 ⟨Nat.le_of_ble_eq_true rfl, Nat.le_of_ble_eq_true rfl⟩) hS (fun q _ h => by cases h; exact hD.2 1 _ rfl) (fun q h => by cases h; exact hD.2 1 _ rfl) (fun u t H locs ht hvm er_6 hB hz hk hS => ?_)
  rw [ht] at hB
  obtain ⟨S_8, eS_8, hf⟩ := sm_lt_e hf
  have hP : PP g (WI g a S_8) H := by rw [eS_8]; exact piw3 (sm_set1 (e := .inl (g.2.2 0, 6, .inl f_4)) 1 hP hD rfl hk hB.1).1
  have hD : va_D (AI a) (WI g a S_8) := by rw [eS_8]; exact diw3 (va_D.set (p := 1) hD rfl)
  refine lv_aload_n hx hb dX2_begin_24 rfl (lv_at hl 0 rfl) ?_
  refine va_get (D := (g.1, g.2.1)) (ci := 2) (v := .ref (a 2)) (C := RX2) (T := TX2) (N := 7) hx hb hts in_X2 hown hK hP 0 rfl rfl 4 (by decide) (hts _ q169) (fun _ h9 => h9) rfl dX2_begin_25 ?_
  refine lv_iconst (v := 0) hx hb dX2_begin_28 (by decide) ?_
  obtain ⟨f_9, h_10, hf⟩ := sm_b1_e hf
  refine va_callv (va_runS (As := [.ref (a 2), .int 0]) (rest := []) ⟨hx, hb, hml, hown, hts⟩ (wJ0_fill l g (a 2) (S_8.2 4) 0 f_9 h_10) (va_cwS 2 hts (lw_S q157 q158 q63 q159) rfl rfl rfl (by decide +kernel) ⟨Nat.le_of_ble_eq_true rfl, Nat.le_of_ble_eq_true rfl⟩) (sm_psD hE (hP.sub (ws' := WF g 0 6 (a 2) (S_8.2 4)) [2] rfl) sm_dF) rfl rfl hl.1 rfl (lv_room (Nat.le_of_ble_eq_true rfl)) dX2_begin_29 ⟨Nat.le_of_ble_eq_true rfl, Nat.le_of_ble_eq_true rfl⟩) hS (fun q _ h => by cases h; exact hD.2 2 _ rfl) (fun q h => by cases h; exact hD.2 2 _ rfl) (fun u t H locs ht hvm er_11 hB hz hk hS => ?_)
  rw [ht] at hB
  obtain ⟨S_13, eS_13, hf⟩ := sm_lt_e hf
  have hP : PP g (WI g a S_13) H := by rw [eS_13]; exact piw4 (sm_set1 (e := .inl (g.2.2 0, 6, .inl f_9)) 2 hP hD rfl hk hB.1).1
  have hD : va_D (AI a) (WI g a S_13) := by rw [eS_13]; exact diw4 (va_D.set (p := 2) hD rfl)
  refine lv_aload_n hx hb dX2_begin_32 rfl (lv_at hl 0 rfl) ?_
  refine lv_iconst (v := 0) hx hb dX2_begin_33 (by decide) ?_
  refine va_put (D := (g.1, g.2.1)) (ci := 2) (v := .int 0) (ty := .int) (C := RX2) (T := TX2) (N := 7) hx hb hts in_X2 tyX2 tyX2_ok nmX2 hown hK hP hD hS 0 rfl rfl 6 (by decide) (hts _ q173) (fun _ h9 => h9) rfl (by decide +kernel) rfl rfl (Nat.le_of_ble_eq_true rfl) dX2_begin_34 (fun H locs hP hD hS => ?_)
  obtain ⟨S_14, eS_14, hf⟩ := sm_lt_e hf
  have hP : PP g (WI g a S_14) H := by rw [eS_14]; exact pif6 hP
  have hD : va_D (AI a) (WI g a S_14) := by rw [eS_14]; exact dif6 hD
  have hf := Option.some.inj hf
  rw [← hQ]
  exact W.vret hx hb hr (fun t ht hW => ⟨⟨(), rfl, trivial, by rw [ht, ← hf]; exact hP, by rw [← hf]; exact hD⟩, hS.F ht⟩) hS.2.2 dX2_begin_37
abbrev rX2_pass : Room := { frames := 1, cells := 0, slots := 0, locals := 23 }
set_option maxHeartbeats 4000000 in
theorem wX2_pass (l : Launch) (g : GG) (a b : Nat → Nat) (B : BS) (S : IS) (Sf : IS) (hf : fX2_pass B S = some Sf) : Met l yX2_pass (ws_ yX2_pass cX2_pass 4 none) rX2_pass (va_Pc [.ref (a 0), .ref (b 0)] (fun Ux => PP g (WI g a S ++ WB g b B) Ux.heap ∧ EV g Ux ∧ va_D (AIB a b) (WI g a S ++ WB g b B))) (va_Qv (fun (_ : Unit) => True) (fun _ t => PP g (WI g a Sf ++ WB g b B) t.heap ∧ va_D (AIB a b) (WI g a Sf ++ WB g b B)) (AIB a b)) 0 0 (AIB a b) := by
  refine sm_st (by decide) ?_
  intro p e s m args below meth c hx hb hr hlocks hml hown hnm hts hv
  obtain ⟨hargs, hP, hE, hD⟩ := hv
  obtain ⟨hK, hN⟩ := id hE
  have hS : va_S (AIB a b) s.heap s.heap [] := va_S.rf
  have hown : s.vm.findClass RX2 = some m.cls := hown
  refine sm_en _ (Nat.le_of_ble_eq_true rfl) hargs (fun ls hl => ?_)
  have hl : lv_has ls 4 [(0, .ref (a 0)), (1, .ref (b 0))] := hl
  generalize hQ : MQ below _ args s _ _ _ = Q
  unfold fX2_pass at hf
  refine lv_iconst (v := 0) hx hb dX2_pass_0 (by decide) ?_
  refine lv_istore_n (lv' := [(2, .int 0), (0, .ref (a 0)), (1, .ref (b 0))]) hx hb dX2_pass_1 rfl hl (by decide) rfl (fun ls hl => ?_)
  have L_8 : ∀ (n : Nat) (x_1 : Int32) (S_2 : IS) (o_9 : Int32) (o_10 : IS) (H : Heap) (locs : List Loc) (ls : Array Slot), sm_lp (fun q => fX2_pass_2 B q.1 q.2) n (x_1, S_2) = some (o_9, o_10) → PP g (WI g a S_2 ++ WB g b B) H → va_D (AIB a b) (WI g a S_2 ++ WB g b B) → va_S (AIB a b) s.heap H locs → lv_has ls 4 [(0, .ref (a 0)), (1, .ref (b 0)), (2, .int x_1)] → (∀ (H : Heap) (locs : List Loc) (ls : Array Slot), PP g (WI g a o_10 ++ WB g b B) H → va_D (AIB a b) (WI g a o_10 ++ WB g b B) → va_S (AIB a b) s.heap H locs → lv_has ls 4 [(0, .ref (a 0)), (1, .ref (b 0)), (2, .int o_9)] → W p l e rX2_pass s m args below meth c H locs 0 0 Q (F0 m 46 ls [])) → W p l e rX2_pass s m args below meth c H locs 0 0 Q (F0 m 2 ls []) := by
    intro n
    induction n with
    | zero =>
      intro _ _ _ _ _ _ _ hf
      cases hf
    | succ n ih_3 =>
      intro x_1 S_2 o_9 o_10 H locs ls hf hP hD hS hl kx_4
      obtain ⟨q, hf, hc_7⟩ := sm_bnd hf
      have hf : fX2_pass_2 B x_1 S_2 = some q := hf
      unfold fX2_pass_2 at hf
      refine lv_iload_n hx hb dX2_pass_2 rfl (lv_at hl 2 rfl) ?_
      refine lv_aload_n hx hb dX2_pass_3 rfl (lv_at hl 1 rfl) ?_
      refine va_getN (D := (g.1, g.2.1)) (ci := 1) (v := .ref (b 1)) (C := RX1) (T := TX1) (N := 9) hx hb hts in_X1 hown hK hP 4 rfl rfl 0 (by decide) (va_Nw.use rfl (hN _ q99 rfl)) (fun _ h9 => h9) rfl dX2_pass_4 ?_
      refine lv_iconst (v := 1) hx hb dX2_pass_7 (by decide) ?_
      refine va_iald hx hb hK hP 5 0 rfl rfl (sm_in rfl) dX2_pass_8 ?_
      refine lv_icmp_ge (tgt := 46) hx hb dX2_pass_9 (by decide) (fun c_11 => ?_) (fun c_11 => ?_)
      · have hf := (if_pos c_11).symm.trans hf
        cases hf
        have hc_7 : some (x_1, S_2) = some (o_9, o_10) := hc_7
        cases hc_7
        exact kx_4 _ _ _ hP hD hS (lv_sub hl [0, 1, 2] rfl)
      · have hf := (if_neg c_11).symm.trans hf
        refine lv_aload_n hx hb dX2_pass_12 rfl (lv_at hl 0 rfl) ?_
        refine lv_iload_n hx hb dX2_pass_13 rfl (lv_at hl 2 rfl) ?_
        obtain ⟨r_12, h_13, hf⟩ := sm_b1_e hf
        refine vp_callSi (W.runV (As := [.int x_1]) (rest := []) ⟨hx, hb, hml, hown, hts⟩ (wX2_manyIn l g a S_2 x_1 r_12 h_13) (cwV 1 hts (lw_V q632 q633 q634 q62 q635) rfl rfl rfl (by decide +kernel) ⟨Nat.le_of_ble_eq_true rfl, Nat.le_of_ble_eq_true rfl⟩) (sm_pv hE (sm_Papp.mp hP).1 (va_recv hK hP (ci := 2) (q0 := 0) rfl rfl)) rfl rfl hl.1 rfl (lv_room (Nat.le_of_ble_eq_true rfl)) dX2_pass_14 ⟨Nat.le_of_ble_eq_true rfl, Nat.le_of_ble_eq_true rfl⟩) (fun r_15 er_14 => ?_)
        have er_14 := er_14.symm
        subst er_14
        refine lv_istore_n (lv' := [(3, .int r_12), (0, .ref (a 0)), (1, .ref (b 0)), (2, .int x_1)]) hx hb dX2_pass_17 rfl hl (by decide) rfl (fun ls hl => ?_)
        refine lv_aload_n hx hb dX2_pass_18 rfl (lv_at hl 1 rfl) ?_
        refine lv_dup hx hb dX2_pass_19 rfl ?_
        refine va_get (D := (g.1, g.2.1)) (ci := 2) (v := .int (S_2.1 1)) (C := RX2) (T := TX2) (N := 7) hx hb hts in_X2 hown hK hP 0 rfl rfl 1 (by decide) (hts _ q162) (fun _ h9 => h9) rfl dX2_pass_20 ?_
        refine lv_iload_n hx hb dX2_pass_23 rfl (lv_at hl 0 rfl) ?_
        obtain ⟨x_16, hf, hf0⟩ := sm_b1_e hf
        suffices hj_17 : ∀ (ls : Array Slot), lv_has ls 4 [(3, .int r_12), (0, .ref (a 0)), (1, .ref (b 0)), (2, .int x_1)] → W p l e rX2_pass s m args below meth c H locs 0 0 Q (F0 m 36 ls [.int x_16, .int (S_2.1 1), .ref (a 0)]) from by
          refine lv_if_ne (tgt := 31) hx hb dX2_pass_24 (by decide) (fun c_18 => ?_) (fun c_18 => ?_)
          · have hf := (if_neg c_18).symm.trans hf
            refine lv_iconst (v := 1) hx hb dX2_pass_31 (by decide) ?_
            refine lv_iload_n hx hb dX2_pass_32 rfl (lv_at hl 0 rfl) ?_
            refine lv_iconst (v := 2) hx hb dX2_pass_33 (by decide) ?_
            refine lv_idiv hx hb dX2_pass_34 (by decide) ?_
            refine lv_iadd hx hb dX2_pass_35 ?_
            cases hf
            exact hj_17 _ (lv_sub hl [0, 1, 2, 3] rfl)
          · have hf := (if_pos c_18).symm.trans hf
            refine lv_iconst (v := 0) hx hb dX2_pass_27 (by decide) ?_
            refine lv_goto (tgt := 36) hx hb dX2_pass_28 (by decide) ?_
            cases hf
            exact hj_17 _ (lv_sub hl [0, 1, 2, 3] rfl)
        intro ls hl
        have hf := hf0
        refine lv_iadd hx hb dX2_pass_36 ?_
        refine va_put (D := (g.1, g.2.1)) (ci := 2) (v := .int ((S_2.1 1) + x_16)) (ty := .int) (C := RX2) (T := TX2) (N := 7) hx hb hts in_X2 tyX2 tyX2_ok nmX2 hown hK hP hD hS 0 rfl rfl 1 (by decide) (hts _ q162) (fun _ h9 => h9) rfl (by decide +kernel) rfl rfl (Nat.le_of_ble_eq_true rfl) dX2_pass_37 (fun H locs hP hD hS => ?_)
        obtain ⟨S_19, eS_19, hf⟩ := sm_lt_e hf
        have hP : PP g (WI g a S_19 ++ WB g b B) H := by rw [eS_19]; exact pjf1 hP
        have hD : va_D (AIB a b) (WI g a S_19 ++ WB g b B) := by rw [eS_19]; exact djf1 hD
        refine lv_iinc (v := x_1 + 1) (lv' := [(2, .int (x_1 + 1)), (3, .int r_12), (0, .ref (a 0)), (1, .ref (b 0))]) hx hb dX2_pass_40 hl (k := 3) rfl rfl (by decide) rfl (fun ls hl => ?_)
        refine lv_goto (tgt := 2) hx hb dX2_pass_43 (by decide) ?_
        cases hf
        exact ih_3 _ _ _ _ _ _ _ hc_7 hP hD hS (lv_sub hl [2, 3, 0] rfl) kx_4
  obtain ⟨x_21, S_22, ho, hf⟩ := sm_b2_e hf
  refine L_8 FU 0 S x_21 S_22 s.heap [] ls ho hP hD hS (lv_sub hl [1, 2, 0] rfl) ?_
  intro H locs ls hP hD hS hl
  refine lv_iconst (v := 0) hx hb dX2_pass_46 (by decide) ?_
  refine lv_istore_n (lv' := [(2, .int 0), (0, .ref (a 0)), (1, .ref (b 0))]) hx hb dX2_pass_47 rfl hl (by decide) rfl (fun ls hl => ?_)
  have L_30 : ∀ (n : Nat) (x_23 : Int32) (S_24 : IS) (o_31 : Int32) (o_32 : IS) (H : Heap) (locs : List Loc) (ls : Array Slot), sm_lp (fun q => fX2_pass_48 B q.1 q.2) n (x_23, S_24) = some (o_31, o_32) → PP g (WI g a S_24 ++ WB g b B) H → va_D (AIB a b) (WI g a S_24 ++ WB g b B) → va_S (AIB a b) s.heap H locs → lv_has ls 4 [(0, .ref (a 0)), (1, .ref (b 0)), (2, .int x_23)] → (∀ (H : Heap) (locs : List Loc) (ls : Array Slot), PP g (WI g a o_32 ++ WB g b B) H → va_D (AIB a b) (WI g a o_32 ++ WB g b B) → va_S (AIB a b) s.heap H locs → lv_has ls 4 [(0, .ref (a 0)), (1, .ref (b 0)), (2, .int o_31)] → W p l e rX2_pass s m args below meth c H locs 0 0 Q (F0 m 85 ls [])) → W p l e rX2_pass s m args below meth c H locs 0 0 Q (F0 m 48 ls []) := by
    intro n
    induction n with
    | zero =>
      intro _ _ _ _ _ _ _ hf
      cases hf
    | succ n ih_25 =>
      intro x_23 S_24 o_31 o_32 H locs ls hf hP hD hS hl kx_26
      obtain ⟨q, hf, hc_29⟩ := sm_bnd hf
      have hf : fX2_pass_48 B x_23 S_24 = some q := hf
      unfold fX2_pass_48 at hf
      refine lv_iload_n hx hb dX2_pass_48 rfl (lv_at hl 2 rfl) ?_
      refine lv_bipush (v := 6) hx hb dX2_pass_49 (by decide) ?_
      refine lv_icmp_ge (tgt := 85) hx hb dX2_pass_51 (by decide) (fun c_33 => ?_) (fun c_33 => ?_)
      · have hf := (if_pos c_33).symm.trans hf
        cases hf
        have hc_29 : some (x_23, S_24) = some (o_31, o_32) := hc_29
        cases hc_29
        exact kx_26 _ _ _ hP hD hS (lv_sub hl [0, 1, 2] rfl)
      · have hf := (if_neg c_33).symm.trans hf
        refine lv_aload_n hx hb dX2_pass_54 rfl (lv_at hl 0 rfl) ?_
        refine va_get (D := (g.1, g.2.1)) (ci := 2) (v := .ref (a 2)) (C := RX2) (T := TX2) (N := 7) hx hb hts in_X2 hown hK hP 0 rfl rfl 4 (by decide) (hts _ q169) (fun _ h9 => h9) rfl dX2_pass_55 ?_
        refine lv_iload_n hx hb dX2_pass_58 rfl (lv_at hl 2 rfl) ?_
        refine lv_dup2_11 hx hb dX2_pass_59 rfl rfl ?_
        obtain ⟨hg, hf⟩ := sm_gd_e hf
        refine va_iald hx hb hK hP 2 0 rfl rfl (sm_in hg) dX2_pass_60 ?_
        refine lv_aload_n hx hb dX2_pass_61 rfl (lv_at hl 0 rfl) ?_
        refine va_get (D := (g.1, g.2.1)) (ci := 2) (v := .ref (a 1)) (C := RX2) (T := TX2) (N := 7) hx hb hts in_X2 hown hK hP 0 rfl rfl 3 (by decide) (hts _ q167) (fun _ h9 => h9) rfl dX2_pass_62 ?_
        refine lv_iload_n hx hb dX2_pass_65 rfl (lv_at hl 2 rfl) ?_
        obtain ⟨hg, hf⟩ := sm_gd_e hf
        refine va_iald hx hb hK hP 1 0 rfl rfl (sm_in hg) dX2_pass_66 ?_
        refine lv_bipush (v := (-9)) hx hb dX2_pass_67 (by decide) ?_
        obtain ⟨x_34, hf, hf0⟩ := sm_b1_e hf
        suffices hj_35 : ∀ (ls : Array Slot), lv_has ls 4 [(0, .ref (a 0)), (1, .ref (b 0)), (2, .int x_23)] → W p l e rX2_pass s m args below meth c H locs 0 0 Q (F0 m 77 ls [.int x_34, .int (S_24.2 4 x_23.toNatClampNeg), .int x_23, .ref (a 2)]) from by
          refine lv_icmp_ne (tgt := 76) hx hb dX2_pass_69 (by decide) (fun c_36 => ?_) (fun c_36 => ?_)
          · have hf := (if_neg c_36).symm.trans hf
            refine lv_iconst (v := 1) hx hb dX2_pass_76 (by decide) ?_
            cases hf
            exact hj_35 _ (lv_sub hl [0, 1, 2] rfl)
          · have hf := (if_pos c_36).symm.trans hf
            refine lv_iconst (v := 0) hx hb dX2_pass_72 (by decide) ?_
            refine lv_goto (tgt := 77) hx hb dX2_pass_73 (by decide) ?_
            cases hf
            exact hj_35 _ (lv_sub hl [0, 1, 2] rfl)
        intro ls hl
        have hf := hf0
        refine lv_iadd hx hb dX2_pass_77 ?_
        obtain ⟨hg, hf⟩ := sm_gd_e hf
        refine va_iast (i := x_23) (x := (S_24.2 4 x_23.toNatClampNeg) + x_34) hx hb hK hP hD hS 2 0 rfl rfl (sm_in hg) dX2_pass_78 (fun H locs hP hD hS => ?_)
        obtain ⟨S_37, eS_37, hf⟩ := sm_lt_e hf
        have hP : PP g (WI g a S_37 ++ WB g b B) H := by rw [eS_37]; exact pjr4 hP
        have hD : va_D (AIB a b) (WI g a S_37 ++ WB g b B) := by rw [eS_37]; exact djr4 hD
        refine lv_iinc (v := x_23 + 1) (lv' := [(2, .int (x_23 + 1)), (0, .ref (a 0)), (1, .ref (b 0))]) hx hb dX2_pass_79 hl (k := 2) rfl rfl (by decide) rfl (fun ls hl => ?_)
        refine lv_goto (tgt := 48) hx hb dX2_pass_82 (by decide) ?_
        cases hf
        exact ih_25 _ _ _ _ _ _ _ hc_29 hP hD hS (lv_sub hl [1, 2, 0] rfl) kx_26
  obtain ⟨x_39, S_40, ho, hf⟩ := sm_b2_e hf
  refine L_30 FU 0 S_22 x_39 S_40 H locs ls ho hP hD hS (lv_sub hl [1, 2, 0] rfl) ?_
  intro H locs ls hP hD hS hl
  refine lv_aload_n hx hb dX2_pass_85 rfl (lv_at hl 0 rfl) ?_
  refine lv_dup hx hb dX2_pass_86 rfl ?_
  refine va_get (D := (g.1, g.2.1)) (ci := 2) (v := .int (S_40.1 0)) (C := RX2) (T := TX2) (N := 7) hx hb hts in_X2 hown hK hP 0 rfl rfl 0 (by decide) (hts _ q160) (fun _ h9 => h9) rfl dX2_pass_87 ?_
  refine lv_iconst (v := 1) hx hb dX2_pass_90 (by decide) ?_
  refine lv_iadd hx hb dX2_pass_91 ?_
  refine va_put (D := (g.1, g.2.1)) (ci := 2) (v := .int ((S_40.1 0) + 1)) (ty := .int) (C := RX2) (T := TX2) (N := 7) hx hb hts in_X2 tyX2 tyX2_ok nmX2 hown hK hP hD hS 0 rfl rfl 0 (by decide) (hts _ q160) (fun _ h9 => h9) rfl (by decide +kernel) rfl rfl (Nat.le_of_ble_eq_true rfl) dX2_pass_92 (fun H locs hP hD hS => ?_)
  obtain ⟨S_41, eS_41, hf⟩ := sm_lt_e hf
  have hP : PP g (WI g a S_41 ++ WB g b B) H := by rw [eS_41]; exact pjf0 hP
  have hD : va_D (AIB a b) (WI g a S_41 ++ WB g b B) := by rw [eS_41]; exact djf0 hD
  have hf := Option.some.inj hf
  rw [← hQ]
  exact W.vret hx hb hr (fun t ht hW => ⟨⟨(), rfl, trivial, by rw [ht, ← hf]; exact hP, by rw [← hf]; exact hD⟩, hS.F ht⟩) hS.2.2 dX2_pass_95
