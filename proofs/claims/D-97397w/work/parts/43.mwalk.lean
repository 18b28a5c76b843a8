/-! SmokedLettersModel, walked: printed by gen/model.py -/
set_option maxRecDepth 100000
abbrev rX9_reads : Room := { frames := 1, cells := 0, slots := 0, locals := 22 }
set_option maxHeartbeats 4000000 in
theorem wX9_reads (l : Launch) (g : GG) (ad : Nat → Nat) (S : MS) (a1 : Int32) (Sf : MS) (rf : Int32) (hf : fX9_reads S a1 = some (Sf, rf)) : Met l yX9_reads (ws_ yX9_reads cX9_reads 5 (some .boolean)) rX9_reads (va_Pc [.ref (ad 0), .int a1] (fun U => PP g (WM g ad S) U.heap ∧ EV g U ∧ va_D (AM ad) (WM g ad S))) (va_Qi (fun y (_ : Unit) => y = rf) (fun _ t => PP g (WM g ad Sf) t.heap ∧ va_D (AM ad) (WM g ad Sf)) (AM ad)) 0 0 (AM ad) := by
  refine sm_st (by decide) ?_
  intro p e s m args below meth c hx hb hr hlocks hml hown hnm hts hv
  obtain ⟨hargs, hP, hE, hD⟩ := hv
  obtain ⟨hK, hN⟩ := id hE
  have hS : va_S (AM ad) s.heap s.heap [] := va_S.rf
  have hown : s.vm.findClass RX9 = some m.cls := hown
  refine sm_en _ (Nat.le_of_ble_eq_true rfl) hargs (fun ls hl => ?_)
  have hl : lv_has ls 5 [(0, .ref (ad 0)), (1, .int a1)] := hl
  generalize hQ : MQ below _ args s _ _ _ = Q
  unfold fX9_reads at hf
  refine lv_aload_n hx hb dX9_reads_0 rfl (lv_at hl 0 rfl) ?_
  refine lv_iconst (v := 0) hx hb dX9_reads_1 (by decide) ?_
  refine va_put (D := (g.1, g.2.1)) (ci := 9) (v := .int 0) (ty := .int) (C := RX9) (T := TX9) (N := 39) hx hb hts in_X9 tyX9 tyX9_ok nmX9 hown hK hP hD hS 0 rfl rfl 37 (by decide) (hts _ q893) (fun _ h9 => h9) rfl (by decide +kernel) rfl rfl (Nat.le_of_ble_eq_true rfl) dX9_reads_2 (fun H locs hP hD hS => ?_)
  obtain ⟨S_1, eS_1, hf⟩ := sm_lt_e hf
  have hP : PP g (WM g ad S_1) H := by rw [eS_1]; exact pmf37 hP
  have hD : va_D (AM ad) (WM g ad S_1) := by rw [eS_1]; exact dmf37 hD
  refine lv_iload_n hx hb dX9_reads_5 rfl (lv_at hl 1 rfl) ?_
  refine lv_bipush (v := 11) hx hb dX9_reads_6 (by decide) ?_
  refine lv_ldc (v := 1771560) hx hb hown (hts _ q1215) dX9_reads_8 ?_
  refine vp_callSi (W.runS (As := [.int a1, .int 11, .int 1771560]) (rest := []) ⟨hx, hb, hml, hown, hts⟩ (wX9_in l a1 11 1771560 (fX9_in a1 11 1771560) rfl) (va_cwS 3 hts (lw_S q979 q980 q70 q981) rfl rfl rfl (by decide +kernel) ⟨Nat.le_of_ble_eq_true rfl, Nat.le_of_ble_eq_true rfl⟩) (sm_ps) rfl rfl hl.1 rfl (lv_room (Nat.le_of_ble_eq_true rfl)) dX9_reads_10 ⟨Nat.le_of_ble_eq_true rfl, Nat.le_of_ble_eq_true rfl⟩) (fun r_3 er_2 => ?_)
  have er_2 := er_2.symm
  subst er_2
  refine lv_istore_n (lv' := [(2, .int (fX9_in a1 11 1771560)), (0, .ref (ad 0)), (1, .int a1)]) hx hb dX9_reads_13 rfl hl (by decide) rfl (fun ls hl => ?_)
  refine lv_iload_n hx hb dX9_reads_14 rfl (lv_at hl 2 rfl) ?_
  refine lv_istore_n (lv' := [(3, .int a1), (2, .int (fX9_in a1 11 1771560)), (0, .ref (ad 0)), (1, .int a1)]) hx hb dX9_reads_15 rfl hl (by decide) rfl (fun ls hl => ?_)
  have L_12 : ∀ (n : Nat) (x_4 : Int32) (x_5 : Int32) (S_6 : MS) (o_13 : Int32) (o_14 : Int32) (o_15 : MS) (H : Heap) (locs : List Loc) (ls : Array Slot), sm_lp (fun q => fX9_reads_16 q.1 q.2.1 q.2.2) n (x_4, x_5, S_6) = some (o_13, o_14, o_15) → PP g (WM g ad S_6) H → va_D (AM ad) (WM g ad S_6) → va_S (AM ad) s.heap H locs → lv_has ls 5 [(0, .ref (ad 0)), (1, .int a1), (3, .int x_4), (2, .int x_5)] → (∀ (H : Heap) (locs : List Loc) (ls : Array Slot), PP g (WM g ad o_15) H → va_D (AM ad) (WM g ad o_15) → va_S (AM ad) s.heap H locs → lv_has ls 5 [(0, .ref (ad 0)), (1, .int a1), (3, .int o_13), (2, .int o_14)] → W p l e rX9_reads s m args below meth c H locs 0 0 Q (F0 m 110 ls [])) → W p l e rX9_reads s m args below meth c H locs 0 0 Q (F0 m 16 ls []) := by
    intro n
    induction n with
    | zero =>
      intro _ _ _ _ _ _ _ _ _ hf
      cases hf
    | succ n ih_7 =>
      intro x_4 x_5 S_6 o_13 o_14 o_15 H locs ls hf hP hD hS hl kx_8
      obtain ⟨q, hf, hc_11⟩ := sm_bnd hf
      have hf : fX9_reads_16 x_4 x_5 S_6 = some q := hf
      unfold fX9_reads_16 at hf
      refine lv_iload_n hx hb dX9_reads_16 rfl (lv_at hl 3 rfl) ?_
      refine lv_if_eq (tgt := 110) hx hb dX9_reads_17 (by decide) (fun c_16 => ?_) (fun c_16 => ?_)
      · have hf := (if_pos c_16).symm.trans hf
        cases hf
        have hc_11 : some (x_4, x_5, S_6) = some (o_13, o_14, o_15) := hc_11
        cases hc_11
        exact kx_8 _ _ _ hP hD hS (lv_sub hl [0, 1, 2, 3] rfl)
      · have hf := (if_neg c_16).symm.trans hf
        refine lv_iload_n hx hb dX9_reads_20 rfl (lv_at hl 2 rfl) ?_
        refine lv_bipush (v := 11) hx hb dX9_reads_21 (by decide) ?_
        refine lv_icmp_lt (tgt := 110) hx hb dX9_reads_23 (by decide) (fun c_17 => ?_) (fun c_17 => ?_)
        · have hf := (if_pos c_17).symm.trans hf
          cases hf
          have hc_11 : some (x_4, x_5, S_6) = some (o_13, o_14, o_15) := hc_11
          cases hc_11
          exact kx_8 _ _ _ hP hD hS (lv_sub hl [0, 1, 2, 3] rfl)
        · have hf := (if_neg c_17).symm.trans hf
          refine lv_aload_n hx hb dX9_reads_26 rfl (lv_at hl 0 rfl) ?_
          refine va_get (D := (g.1, g.2.1)) (ci := 9) (v := .int (S_6.1 37)) (C := RX9) (T := TX9) (N := 39) hx hb hts in_X9 hown hK hP 0 rfl rfl 37 (by decide) (hts _ q893) (fun _ h9 => h9) rfl dX9_reads_27 ?_
          refine lv_iconst (v := 5) hx hb dX9_reads_30 (by decide) ?_
          refine lv_icmp_ge (tgt := 110) hx hb dX9_reads_31 (by decide) (fun c_18 => ?_) (fun c_18 => ?_)
          · have hf := (if_pos c_18).symm.trans hf
            cases hf
            have hc_11 : some (x_4, x_5, S_6) = some (o_13, o_14, o_15) := hc_11
            cases hc_11
            exact kx_8 _ _ _ hP hD hS (lv_sub hl [0, 1, 2, 3] rfl)
          · have hf := (if_neg c_18).symm.trans hf
            refine lv_iload_n hx hb dX9_reads_34 rfl (lv_at hl 2 rfl) ?_
            refine lv_bipush (v := 11) hx hb dX9_reads_35 (by decide) ?_
            refine lv_irem hx hb dX9_reads_37 (by decide) ?_
            refine lv_bipush (v := 10) hx hb dX9_reads_38 (by decide) ?_
            obtain ⟨x_19, hf, hf0⟩ := sm_b1_e hf
            suffices hj_20 : ∀ (ls : Array Slot), lv_has ls 5 [(0, .ref (ad 0)), (1, .int a1), (3, .int x_4), (2, .int x_5)] → W p l e rX9_reads s m args below meth c H locs 0 0 Q (F0 m 48 ls [.int x_19]) from by
              refine lv_icmp_ge (tgt := 47) hx hb dX9_reads_40 (by decide) (fun c_21 => ?_) (fun c_21 => ?_)
              · have hf := (if_pos c_21).symm.trans hf
                refine lv_iconst (v := 0) hx hb dX9_reads_47 (by decide) ?_
                cases hf
                exact hj_20 _ (lv_sub hl [0, 1, 2, 3] rfl)
              · have hf := (if_neg c_21).symm.trans hf
                refine lv_iconst (v := 1) hx hb dX9_reads_43 (by decide) ?_
                refine lv_goto (tgt := 48) hx hb dX9_reads_44 (by decide) ?_
                cases hf
                exact hj_20 _ (lv_sub hl [0, 1, 2, 3] rfl)
            intro ls hl
            have hf := hf0
            refine lv_istore_n (lv' := [(2, .int x_19), (0, .ref (ad 0)), (1, .int a1), (3, .int x_4)]) hx hb dX9_reads_48 rfl hl (by decide) rfl (fun ls hl => ?_)
            refine lv_aload_n hx hb dX9_reads_49 rfl (lv_at hl 1 rfl) ?_
            refine va_get (D := (g.1, g.2.1)) (ci := 9) (v := .int (S_6.1 37)) (C := RX9) (T := TX9) (N := 39) hx hb hts in_X9 hown hK hP 0 rfl rfl 37 (by decide) (hts _ q893) (fun _ h9 => h9) rfl dX9_reads_50 ?_
            refine lv_istore (lv' := [(4, .int (S_6.1 37)), (2, .int x_19), (0, .ref (ad 0)), (1, .int a1), (3, .int x_4)]) hx hb dX9_reads_53 hl (by decide) rfl (fun ls hl => ?_)
            have L_29 : ∀ (n : Nat) (x_22 : Int32) (S_23 : MS) (o_30 : Int32) (o_31 : MS) (H : Heap) (locs : List Loc) (ls : Array Slot), sm_lp (fun q => fX9_reads_55 q.1 q.2) n (x_22, S_23) = some (o_30, o_31) → PP g (WM g ad S_23) H → va_D (AM ad) (WM g ad S_23) → va_S (AM ad) s.heap H locs → lv_has ls 5 [(2, .int x_19), (0, .ref (ad 0)), (1, .int a1), (3, .int x_4), (4, .int x_22)] → (∀ (H : Heap) (locs : List Loc) (ls : Array Slot), PP g (WM g ad o_31) H → va_D (AM ad) (WM g ad o_31) → va_S (AM ad) s.heap H locs → lv_has ls 5 [(2, .int x_19), (0, .ref (ad 0)), (1, .int a1), (3, .int x_4), (4, .int o_30)] → W p l e rX9_reads s m args below meth c H locs 0 0 Q (F0 m 82 ls [])) → W p l e rX9_reads s m args below meth c H locs 0 0 Q (F0 m 55 ls []) := by
              intro n
              induction n with
              | zero =>
                intro _ _ _ _ _ _ _ hf
                cases hf
              | succ n ih_24 =>
                intro x_22 S_23 o_30 o_31 H locs ls hf hP hD hS hl kx_25
                obtain ⟨q, hf, hc_28⟩ := sm_bnd hf
                have hf : fX9_reads_55 x_22 S_23 = some q := hf
                unfold fX9_reads_55 at hf
                refine lv_iload hx hb dX9_reads_55 (lv_at hl 4 rfl) ?_
                refine lv_if_le (tgt := 82) hx hb dX9_reads_57 (by decide) (fun c_32 => ?_) (fun c_32 => ?_)
                · have hf := (if_pos c_32).symm.trans hf
                  cases hf
                  have hc_28 : some (x_22, S_23) = some (o_30, o_31) := hc_28
                  cases hc_28
                  exact kx_25 _ _ _ hP hD hS (lv_sub hl [0, 1, 2, 3, 4] rfl)
                · have hf := (if_neg c_32).symm.trans hf
                  refine lv_aload_n hx hb dX9_reads_60 rfl (lv_at hl 1 rfl) ?_
                  refine va_get (D := (g.1, g.2.1)) (ci := 9) (v := .ref (ad 35)) (C := RX9) (T := TX9) (N := 39) hx hb hts in_X9 hown hK hP 0 rfl rfl 35 (by decide) (hts _ q891) (fun _ h9 => h9) rfl dX9_reads_61 ?_
                  refine lv_iload hx hb dX9_reads_64 (lv_at hl 4 rfl) ?_
                  refine lv_aload_n hx hb dX9_reads_66 rfl (lv_at hl 1 rfl) ?_
                  refine va_get (D := (g.1, g.2.1)) (ci := 9) (v := .ref (ad 35)) (C := RX9) (T := TX9) (N := 39) hx hb hts in_X9 hown hK hP 0 rfl rfl 35 (by decide) (hts _ q891) (fun _ h9 => h9) rfl dX9_reads_67 ?_
                  refine lv_iload hx hb dX9_reads_70 (lv_at hl 4 rfl) ?_
                  refine lv_iconst (v := 1) hx hb dX9_reads_72 (by decide) ?_
                  refine lv_isub hx hb dX9_reads_73 ?_
                  obtain ⟨hg, hf⟩ := sm_gd_e hf
                  refine va_iald hx hb hK hP 18 0 rfl rfl (sm_in hg) dX9_reads_74 ?_
                  obtain ⟨hg, hf⟩ := sm_gd_e hf
                  refine va_iast (i := x_22) (x := S_23.2.1 35 (x_22 - 1).toNatClampNeg) hx hb hK hP hD hS 18 0 rfl rfl (sm_in hg) dX9_reads_75 (fun H locs hP hD hS => ?_)
                  obtain ⟨S_33, eS_33, hf⟩ := sm_lt_e hf
                  have hP : PP g (WM g ad S_33) H := by rw [eS_33]; exact pmr35 hP
                  have hD : va_D (AM ad) (WM g ad S_33) := by rw [eS_33]; exact dmr35 hD
                  refine lv_iinc (v := x_22 + (-1)) (lv' := [(4, .int (x_22 + (-1))), (2, .int x_19), (0, .ref (ad 0)), (1, .int a1), (3, .int x_4)]) hx hb dX9_reads_76 hl (k := 4) rfl rfl (by decide) rfl (fun ls hl => ?_)
                  refine lv_goto (tgt := 55) hx hb dX9_reads_79 (by decide) ?_
                  cases hf
                  exact ih_24 _ _ _ _ _ _ _ hc_28 hP hD hS (lv_sub hl [1, 2, 3, 4, 0] rfl) kx_25
            obtain ⟨x_35, S_36, ho, hf⟩ := sm_b2_e hf
            refine L_29 FU (S_6.1 37) S_6 x_35 S_36 H locs ls ho hP hD hS (lv_sub hl [1, 2, 3, 4, 0] rfl) ?_
            intro H locs ls hP hD hS hl
            refine lv_aload_n hx hb dX9_reads_82 rfl (lv_at hl 1 rfl) ?_
            refine va_get (D := (g.1, g.2.1)) (ci := 9) (v := .ref (ad 35)) (C := RX9) (T := TX9) (N := 39) hx hb hts in_X9 hown hK hP 0 rfl rfl 35 (by decide) (hts _ q891) (fun _ h9 => h9) rfl dX9_reads_83 ?_
            refine lv_iconst (v := 0) hx hb dX9_reads_86 (by decide) ?_
            refine lv_iload_n hx hb dX9_reads_87 rfl (lv_at hl 3 rfl) ?_
            refine lv_bipush (v := 11) hx hb dX9_reads_88 (by decide) ?_
            refine lv_irem hx hb dX9_reads_90 (by decide) ?_
            refine va_iast (i := 0) (x := x_4 - x_4 / 11 * 11) hx hb hK hP hD hS 18 0 rfl rfl (sm_in rfl) dX9_reads_91 (fun H locs hP hD hS => ?_)
            obtain ⟨S_37, eS_37, hf⟩ := sm_lt_e hf
            have hP : PP g (WM g ad S_37) H := by rw [eS_37]; exact pmr35 hP
            have hD : va_D (AM ad) (WM g ad S_37) := by rw [eS_37]; exact dmr35 hD
            refine lv_aload_n hx hb dX9_reads_92 rfl (lv_at hl 1 rfl) ?_
            refine lv_dup hx hb dX9_reads_93 rfl ?_
            refine va_get (D := (g.1, g.2.1)) (ci := 9) (v := .int (S_37.1 37)) (C := RX9) (T := TX9) (N := 39) hx hb hts in_X9 hown hK hP 0 rfl rfl 37 (by decide) (hts _ q893) (fun _ h9 => h9) rfl dX9_reads_94 ?_
            refine lv_iconst (v := 1) hx hb dX9_reads_97 (by decide) ?_
            refine lv_iadd hx hb dX9_reads_98 ?_
            refine va_put (D := (g.1, g.2.1)) (ci := 9) (v := .int ((S_37.1 37) + 1)) (ty := .int) (C := RX9) (T := TX9) (N := 39) hx hb hts in_X9 tyX9 tyX9_ok nmX9 hown hK hP hD hS 0 rfl rfl 37 (by decide) (hts _ q893) (fun _ h9 => h9) rfl (by decide +kernel) rfl rfl (Nat.le_of_ble_eq_true rfl) dX9_reads_99 (fun H locs hP hD hS => ?_)
            obtain ⟨S_38, eS_38, hf⟩ := sm_lt_e hf
            have hP : PP g (WM g ad S_38) H := by rw [eS_38]; exact pmf37 hP
            have hD : va_D (AM ad) (WM g ad S_38) := by rw [eS_38]; exact dmf37 hD
            refine lv_iload_n hx hb dX9_reads_102 rfl (lv_at hl 3 rfl) ?_
            refine lv_bipush (v := 11) hx hb dX9_reads_103 (by decide) ?_
            refine lv_idiv hx hb dX9_reads_105 (by decide) ?_
            refine lv_istore_n (lv' := [(3, .int (x_4 / 11)), (2, .int x_19), (0, .ref (ad 0)), (1, .int a1), (4, .int x_35)]) hx hb dX9_reads_106 rfl hl (by decide) rfl (fun ls hl => ?_)
            refine lv_goto (tgt := 16) hx hb dX9_reads_107 (by decide) ?_
            cases hf
            exact ih_7 _ _ _ _ _ _ _ _ _ hc_11 hP hD hS (lv_sub hl [2, 3, 0, 1] rfl) kx_8
  obtain ⟨x_40, x_41, S_42, ho, hf⟩ := sm_b3_e hf
  refine L_12 FU a1 (fX9_in a1 11 1771560) S_1 x_40 x_41 S_42 H locs ls ho hP hD hS (lv_sub hl [2, 3, 0, 1] rfl) ?_
  intro H locs ls hP hD hS hl
  refine lv_iload_n hx hb dX9_reads_110 rfl (lv_at hl 3 rfl) ?_
  refine lv_if_eq (tgt := 123) hx hb dX9_reads_111 (by decide) (fun c_43 => ?_) (fun c_43 => ?_)
  · have hf := (if_pos c_43).symm.trans hf
    refine lv_iconst (v := 0) hx hb dX9_reads_123 (by decide) ?_
    have hf := Option.some.inj hf
    rw [← hQ]
    have hf := Prod.mk.inj hf
    exact W.zret (v := 0) hx hb hr rfl (fun t ht hW => ⟨⟨_, (), rfl, hf.2, by rw [ht, ← hf.1]; exact hP, by rw [← hf.1]; exact hD⟩, hS.F ht⟩) hS.2.2 dX9_reads_124
  · have hf := (if_neg c_43).symm.trans hf
    refine lv_iload_n hx hb dX9_reads_114 rfl (lv_at hl 2 rfl) ?_
    refine lv_iconst (v := 1) hx hb dX9_reads_115 (by decide) ?_
    refine lv_icmp_ne (tgt := 123) hx hb dX9_reads_116 (by decide) (fun c_44 => ?_) (fun c_44 => ?_)
    · have hf := (if_neg c_44).symm.trans hf
      refine lv_iconst (v := 0) hx hb dX9_reads_123 (by decide) ?_
      have hf := Option.some.inj hf
      rw [← hQ]
      have hf := Prod.mk.inj hf
      exact W.zret (v := 0) hx hb hr rfl (fun t ht hW => ⟨⟨_, (), rfl, hf.2, by rw [ht, ← hf.1]; exact hP, by rw [← hf.1]; exact hD⟩, hS.F ht⟩) hS.2.2 dX9_reads_124
    · have hf := (if_pos c_44).symm.trans hf
      refine lv_iconst (v := 1) hx hb dX9_reads_119 (by decide) ?_
      refine lv_goto (tgt := 124) hx hb dX9_reads_120 (by decide) ?_
      have hf := Option.some.inj hf
      rw [← hQ]
      have hf := Prod.mk.inj hf
      exact W.zret (v := 1) hx hb hr rfl (fun t ht hW => ⟨⟨_, (), rfl, hf.2, by rw [ht, ← hf.1]; exact hP, by rw [← hf.1]; exact hD⟩, hS.F ht⟩) hS.2.2 dX9_reads_124
abbrev rX9_remembers : Room := { frames := 0, cells := 0, slots := 0, locals := 0 }
set_option maxHeartbeats 4000000 in
theorem wX9_remembers (l : Launch) (g : GG) (ad : Nat → Nat) (S : MS) (Sf : MS) (hf : fX9_remembers S = some Sf) : Met l yX9_remembers (ws_ yX9_remembers cX9_remembers 2 none) rX9_remembers (va_Pc [.ref (ad 0)] (fun U => PP g (WM g ad S) U.heap ∧ EV g U ∧ va_D (AM ad) (WM g ad S))) (va_Qv (fun (_ : Unit) => True) (fun _ t => PP g (WM g ad Sf) t.heap ∧ va_D (AM ad) (WM g ad Sf)) (AM ad)) 0 0 (AM ad) := by
  refine sm_st (by decide) ?_
  intro p e s m args below meth c hx hb hr hlocks hml hown hnm hts hv
  obtain ⟨hargs, hP, hE, hD⟩ := hv
  obtain ⟨hK, hN⟩ := id hE
  have hS : va_S (AM ad) s.heap s.heap [] := va_S.rf
  have hown : s.vm.findClass RX9 = some m.cls := hown
  refine sm_en _ (Nat.le_of_ble_eq_true rfl) hargs (fun ls hl => ?_)
  have hl : lv_has ls 2 [(0, .ref (ad 0))] := hl
  generalize hQ : MQ below _ args s _ _ _ = Q
  unfold fX9_remembers at hf
  refine lv_aload_n hx hb dX9_remembers_0 rfl (lv_at hl 0 rfl) ?_
  refine va_get (D := (g.1, g.2.1)) (ci := 9) (v := .int (S.1 9)) (C := RX9) (T := TX9) (N := 39) hx hb hts in_X9 hown hK hP 0 rfl rfl 9 (by decide) (hts _ q865) (fun _ h9 => h9) rfl dX9_remembers_1 ?_
  refine lv_bipush (v := 10) hx hb dX9_remembers_4 (by decide) ?_
  obtain ⟨S_1, hf, hf0⟩ := sm_b1_e hf
  suffices hj_2 : ∀ (H : Heap) (locs : List Loc) (ls : Array Slot), PP g (WM g ad S_1) H → va_D (AM ad) (WM g ad S_1) → va_S (AM ad) s.heap H locs → lv_has ls 2 [(0, .ref (ad 0))] → W p l e rX9_remembers s m args below meth c H locs 0 0 Q (F0 m 49 ls []) from by
    refine lv_icmp_ne (tgt := 49) hx hb dX9_remembers_6 (by decide) (fun c_3 => ?_) (fun c_3 => ?_)
    · have hf := (if_neg c_3).symm.trans hf
      cases hf
      exact hj_2 _ _ _ hP hD hS (lv_sub hl [0] rfl)
    · have hf := (if_pos c_3).symm.trans hf
      refine lv_iconst (v := 0) hx hb dX9_remembers_9 (by decide) ?_
      refine lv_istore_n (lv' := [(1, .int 0), (0, .ref (ad 0))]) hx hb dX9_remembers_10 rfl hl (by decide) rfl (fun ls hl => ?_)
      have L_11 : ∀ (n : Nat) (x_4 : Int32) (S_5 : MS) (o_12 : Int32) (o_13 : MS) (H : Heap) (locs : List Loc) (ls : Array Slot), sm_lp (fun q => fX9_remembers_11 q.1 q.2) n (x_4, S_5) = some (o_12, o_13) → PP g (WM g ad S_5) H → va_D (AM ad) (WM g ad S_5) → va_S (AM ad) s.heap H locs → lv_has ls 2 [(0, .ref (ad 0)), (1, .int x_4)] → (∀ (H : Heap) (locs : List Loc) (ls : Array Slot), PP g (WM g ad o_13) H → va_D (AM ad) (WM g ad o_13) → va_S (AM ad) s.heap H locs → lv_has ls 2 [(0, .ref (ad 0)), (1, .int o_12)] → W p l e rX9_remembers s m args below meth c H locs 0 0 Q (F0 m 39 ls [])) → W p l e rX9_remembers s m args below meth c H locs 0 0 Q (F0 m 11 ls []) := by
        intro n
        induction n with
        | zero =>
          intro _ _ _ _ _ _ _ hf
          cases hf
        | succ n ih_6 =>
          intro x_4 S_5 o_12 o_13 H locs ls hf hP hD hS hl kx_7
          obtain ⟨q, hf, hc_10⟩ := sm_bnd hf
          have hf : fX9_remembers_11 x_4 S_5 = some q := hf
          unfold fX9_remembers_11 at hf
          refine lv_iload_n hx hb dX9_remembers_11 rfl (lv_at hl 1 rfl) ?_
          refine lv_sipush (v := 234) hx hb dX9_remembers_12 (by decide) ?_
          refine lv_icmp_ge (tgt := 39) hx hb dX9_remembers_15 (by decide) (fun c_14 => ?_) (fun c_14 => ?_)
          · have hf := (if_pos c_14).symm.trans hf
            cases hf
            have hc_10 : some (x_4, S_5) = some (o_12, o_13) := hc_10
            cases hc_10
            exact kx_7 _ _ _ hP hD hS (lv_sub hl [0, 1] rfl)
          · have hf := (if_neg c_14).symm.trans hf
            refine lv_aload_n hx hb dX9_remembers_18 rfl (lv_at hl 0 rfl) ?_
            refine va_get (D := (g.1, g.2.1)) (ci := 9) (v := .ref (ad 8)) (C := RX9) (T := TX9) (N := 39) hx hb hts in_X9 hown hK hP 0 rfl rfl 8 (by decide) (hts _ q864) (fun _ h9 => h9) rfl dX9_remembers_19 ?_
            refine lv_iload_n hx hb dX9_remembers_22 rfl (lv_at hl 1 rfl) ?_
            refine lv_aload_n hx hb dX9_remembers_23 rfl (lv_at hl 0 rfl) ?_
            refine va_get (D := (g.1, g.2.1)) (ci := 9) (v := .ref (ad 8)) (C := RX9) (T := TX9) (N := 39) hx hb hts in_X9 hown hK hP 0 rfl rfl 8 (by decide) (hts _ q864) (fun _ h9 => h9) rfl dX9_remembers_24 ?_
            refine lv_iload_n hx hb dX9_remembers_27 rfl (lv_at hl 1 rfl) ?_
            refine lv_bipush (v := 26) hx hb dX9_remembers_28 (by decide) ?_
            refine lv_iadd hx hb dX9_remembers_30 ?_
            obtain ⟨hg, hf⟩ := sm_gd_e hf
            refine va_iald hx hb hK hP 4 0 rfl rfl (sm_in hg) dX9_remembers_31 ?_
            obtain ⟨hg, hf⟩ := sm_gd_e hf
            refine va_iast (i := x_4) (x := S_5.2.1 8 (x_4 + 26).toNatClampNeg) hx hb hK hP hD hS 4 0 rfl rfl (sm_in hg) dX9_remembers_32 (fun H locs hP hD hS => ?_)
            obtain ⟨S_15, eS_15, hf⟩ := sm_lt_e hf
            have hP : PP g (WM g ad S_15) H := by rw [eS_15]; exact pmr8 hP
            have hD : va_D (AM ad) (WM g ad S_15) := by rw [eS_15]; exact dmr8 hD
            refine lv_iinc (v := x_4 + 1) (lv' := [(1, .int (x_4 + 1)), (0, .ref (ad 0))]) hx hb dX9_remembers_33 hl (k := 1) rfl rfl (by decide) rfl (fun ls hl => ?_)
            refine lv_goto (tgt := 11) hx hb dX9_remembers_36 (by decide) ?_
            cases hf
            exact ih_6 _ _ _ _ _ _ _ hc_10 hP hD hS (lv_sub hl [1, 0] rfl) kx_7
      obtain ⟨x_17, S_18, ho, hf⟩ := sm_b2_e hf
      refine L_11 FU 0 S x_17 S_18 s.heap [] ls ho hP hD hS (lv_sub hl [1, 0] rfl) ?_
      intro H locs ls hP hD hS hl
      refine lv_aload_n hx hb dX9_remembers_39 rfl (lv_at hl 0 rfl) ?_
      refine lv_dup hx hb dX9_remembers_40 rfl ?_
      refine va_get (D := (g.1, g.2.1)) (ci := 9) (v := .int (S_18.1 9)) (C := RX9) (T := TX9) (N := 39) hx hb hts in_X9 hown hK hP 0 rfl rfl 9 (by decide) (hts _ q865) (fun _ h9 => h9) rfl dX9_remembers_41 ?_
      refine lv_iconst (v := 1) hx hb dX9_remembers_44 (by decide) ?_
      refine lv_isub hx hb dX9_remembers_45 ?_
      refine va_put (D := (g.1, g.2.1)) (ci := 9) (v := .int ((S_18.1 9) - 1)) (ty := .int) (C := RX9) (T := TX9) (N := 39) hx hb hts in_X9 tyX9 tyX9_ok nmX9 hown hK hP hD hS 0 rfl rfl 9 (by decide) (hts _ q865) (fun _ h9 => h9) rfl (by decide +kernel) rfl rfl (Nat.le_of_ble_eq_true rfl) dX9_remembers_46 (fun H locs hP hD hS => ?_)
      obtain ⟨S_19, eS_19, hf⟩ := sm_lt_e hf
      have hP : PP g (WM g ad S_19) H := by rw [eS_19]; exact pmf9 hP
      have hD : va_D (AM ad) (WM g ad S_19) := by rw [eS_19]; exact dmf9 hD
      cases hf
      exact hj_2 _ _ _ hP hD hS (lv_sub hl [0] rfl)
  intro H locs ls hP hD hS hl
  have hf := hf0
  refine lv_iconst (v := 0) hx hb dX9_remembers_49 (by decide) ?_
  refine lv_istore_n (lv' := [(1, .int 0), (0, .ref (ad 0))]) hx hb dX9_remembers_50 rfl hl (by decide) rfl (fun ls hl => ?_)
  have L_27 : ∀ (n : Nat) (x_20 : Int32) (S_21 : MS) (o_28 : Int32) (o_29 : MS) (H : Heap) (locs : List Loc) (ls : Array Slot), sm_lp (fun q => fX9_remembers_51 q.1 q.2) n (x_20, S_21) = some (o_28, o_29) → PP g (WM g ad S_21) H → va_D (AM ad) (WM g ad S_21) → va_S (AM ad) s.heap H locs → lv_has ls 2 [(0, .ref (ad 0)), (1, .int x_20)] → (∀ (H : Heap) (locs : List Loc) (ls : Array Slot), PP g (WM g ad o_29) H → va_D (AM ad) (WM g ad o_29) → va_S (AM ad) s.heap H locs → lv_has ls 2 [(0, .ref (ad 0)), (1, .int o_28)] → W p l e rX9_remembers s m args below meth c H locs 0 0 Q (F0 m 83 ls [])) → W p l e rX9_remembers s m args below meth c H locs 0 0 Q (F0 m 51 ls []) := by
    intro n
    induction n with
    | zero =>
      intro _ _ _ _ _ _ _ hf
      cases hf
    | succ n ih_22 =>
      intro x_20 S_21 o_28 o_29 H locs ls hf hP hD hS hl kx_23
      obtain ⟨q, hf, hc_26⟩ := sm_bnd hf
      have hf : fX9_remembers_51 x_20 S_21 = some q := hf
      unfold fX9_remembers_51 at hf
      refine lv_iload_n hx hb dX9_remembers_51 rfl (lv_at hl 1 rfl) ?_
      refine lv_bipush (v := 26) hx hb dX9_remembers_52 (by decide) ?_
      refine lv_icmp_ge (tgt := 83) hx hb dX9_remembers_54 (by decide) (fun c_30 => ?_) (fun c_30 => ?_)
      · have hf := (if_pos c_30).symm.trans hf
        cases hf
        have hc_26 : some (x_20, S_21) = some (o_28, o_29) := hc_26
        cases hc_26
        exact kx_23 _ _ _ hP hD hS (lv_sub hl [0, 1] rfl)
      · have hf := (if_neg c_30).symm.trans hf
        refine lv_aload_n hx hb dX9_remembers_57 rfl (lv_at hl 0 rfl) ?_
        refine va_get (D := (g.1, g.2.1)) (ci := 9) (v := .ref (ad 8)) (C := RX9) (T := TX9) (N := 39) hx hb hts in_X9 hown hK hP 0 rfl rfl 8 (by decide) (hts _ q864) (fun _ h9 => h9) rfl dX9_remembers_58 ?_
        refine lv_bipush (v := 26) hx hb dX9_remembers_61 (by decide) ?_
        refine lv_aload_n hx hb dX9_remembers_63 rfl (lv_at hl 0 rfl) ?_
        refine va_get (D := (g.1, g.2.1)) (ci := 9) (v := .int (S_21.1 9)) (C := RX9) (T := TX9) (N := 39) hx hb hts in_X9 hown hK hP 0 rfl rfl 9 (by decide) (hts _ q865) (fun _ h9 => h9) rfl dX9_remembers_64 ?_
        refine lv_imul hx hb dX9_remembers_67 ?_
        refine lv_iload_n hx hb dX9_remembers_68 rfl (lv_at hl 1 rfl) ?_
        refine lv_iadd hx hb dX9_remembers_69 ?_
        refine lv_aload_n hx hb dX9_remembers_70 rfl (lv_at hl 0 rfl) ?_
        refine va_get (D := (g.1, g.2.1)) (ci := 9) (v := .ref (ad 7)) (C := RX9) (T := TX9) (N := 39) hx hb hts in_X9 hown hK hP 0 rfl rfl 7 (by decide) (hts _ q863) (fun _ h9 => h9) rfl dX9_remembers_71 ?_
        refine lv_iload_n hx hb dX9_remembers_74 rfl (lv_at hl 1 rfl) ?_
        obtain ⟨hg, hf⟩ := sm_gd_e hf
        refine va_iald hx hb hK hP 3 0 rfl rfl (sm_in hg) dX9_remembers_75 ?_
        obtain ⟨hg, hf⟩ := sm_gd_e hf
        refine va_iast (i := (26 * (S_21.1 9)) + x_20) (x := S_21.2.1 7 x_20.toNatClampNeg) hx hb hK hP hD hS 4 0 rfl rfl (sm_in hg) dX9_remembers_76 (fun H locs hP hD hS => ?_)
        obtain ⟨S_31, eS_31, hf⟩ := sm_lt_e hf
        have hP : PP g (WM g ad S_31) H := by rw [eS_31]; exact pmr8 hP
        have hD : va_D (AM ad) (WM g ad S_31) := by rw [eS_31]; exact dmr8 hD
        refine lv_iinc (v := x_20 + 1) (lv' := [(1, .int (x_20 + 1)), (0, .ref (ad 0))]) hx hb dX9_remembers_77 hl (k := 1) rfl rfl (by decide) rfl (fun ls hl => ?_)
        refine lv_goto (tgt := 51) hx hb dX9_remembers_80 (by decide) ?_
        cases hf
        exact ih_22 _ _ _ _ _ _ _ hc_26 hP hD hS (lv_sub hl [1, 0] rfl) kx_23
  obtain ⟨x_33, S_34, ho, hf⟩ := sm_b2_e hf
  refine L_27 FU 0 S_1 x_33 S_34 H locs ls ho hP hD hS (lv_sub hl [1, 0] rfl) ?_
  intro H locs ls hP hD hS hl
  refine lv_aload_n hx hb dX9_remembers_83 rfl (lv_at hl 0 rfl) ?_
  refine lv_dup hx hb dX9_remembers_84 rfl ?_
  refine va_get (D := (g.1, g.2.1)) (ci := 9) (v := .int (S_34.1 9)) (C := RX9) (T := TX9) (N := 39) hx hb hts in_X9 hown hK hP 0 rfl rfl 9 (by decide) (hts _ q865) (fun _ h9 => h9) rfl dX9_remembers_85 ?_
  refine lv_iconst (v := 1) hx hb dX9_remembers_88 (by decide) ?_
  refine lv_iadd hx hb dX9_remembers_89 ?_
  refine va_put (D := (g.1, g.2.1)) (ci := 9) (v := .int ((S_34.1 9) + 1)) (ty := .int) (C := RX9) (T := TX9) (N := 39) hx hb hts in_X9 tyX9 tyX9_ok nmX9 hown hK hP hD hS 0 rfl rfl 9 (by decide) (hts _ q865) (fun _ h9 => h9) rfl (by decide +kernel) rfl rfl (Nat.le_of_ble_eq_true rfl) dX9_remembers_90 (fun H locs hP hD hS => ?_)
  obtain ⟨S_35, eS_35, hf⟩ := sm_lt_e hf
  have hP : PP g (WM g ad S_35) H := by rw [eS_35]; exact pmf9 hP
  have hD : va_D (AM ad) (WM g ad S_35) := by rw [eS_35]; exact dmf9 hD
  have hf := Option.some.inj hf
  rw [← hQ]
  exact W.vret hx hb hr (fun t ht hW => ⟨⟨(), rfl, trivial, by rw [ht, ← hf]; exact hP, by rw [← hf]; exact hD⟩, hS.F ht⟩) hS.2.2 dX9_remembers_93
abbrev rX9_puts : Room := { frames := 2, cells := 0, slots := 0, locals := 43 }
set_option maxHeartbeats 4000000 in
theorem wX9_puts (l : Launch) (g : GG) (ad : Nat → Nat) (S : MS) (a1 : Int32) (a2 : Int32) (Sf : MS) (rf : Int32) (hf : fX9_puts S a1 a2 = some (Sf, rf)) : Met l yX9_puts (ws_ yX9_puts cX9_puts 6 (some .int)) rX9_puts (va_Pc [.ref (ad 0), .int a1, .int a2] (fun U => PP g (WM g ad S) U.heap ∧ EV g U ∧ va_D (AM ad) (WM g ad S))) (va_Qi (fun y (_ : Unit) => y = rf) (fun _ t => PP g (WM g ad Sf) t.heap ∧ va_D (AM ad) (WM g ad Sf)) (AM ad)) 0 0 (AM ad) := by
  refine sm_st (by decide) ?_
  intro p e s m args below meth c hx hb hr hlocks hml hown hnm hts hv
  obtain ⟨hargs, hP, hE, hD⟩ := hv
  obtain ⟨hK, hN⟩ := id hE
  have hS : va_S (AM ad) s.heap s.heap [] := va_S.rf
  have hown : s.vm.findClass RX9 = some m.cls := hown
  refine sm_en _ (Nat.le_of_ble_eq_true rfl) hargs (fun ls hl => ?_)
  have hl : lv_has ls 6 [(0, .ref (ad 0)), (1, .int a1), (2, .int a2)] := hl
  generalize hQ : MQ below _ args s _ _ _ = Q
  unfold fX9_puts at hf
  refine lv_aload_n hx hb dX9_puts_0 rfl (lv_at hl 0 rfl) ?_
  refine lv_iload_n hx hb dX9_puts_1 rfl (lv_at hl 1 rfl) ?_
  refine vp_callSi (W.runV (As := [.int a1]) (rest := []) ⟨hx, hb, hml, hown, hts⟩ (wX9_isTraveller l g ad S a1 (fX9_isTraveller S a1) rfl) (cwV 1 hts (lw_V q1029 q1031 qs30 q70 q1032) rfl rfl rfl (by decide +kernel) ⟨Nat.le_of_ble_eq_true rfl, Nat.le_of_ble_eq_true rfl⟩) (sm_pv hE hP (va_recv hK hP (ci := 9) (q0 := 0) rfl rfl)) rfl rfl hl.1 rfl (lv_room (Nat.le_of_ble_eq_true rfl)) dX9_puts_2 ⟨Nat.le_of_ble_eq_true rfl, Nat.le_of_ble_eq_true rfl⟩) (fun r_2 er_1 => ?_)
  have er_1 := er_1.symm
  subst er_1
  refine lv_if_eq (tgt := 16) hx hb dX9_puts_5 (by decide) (fun c_3 => ?_) (fun c_3 => ?_)
  · have hf := (if_pos c_3).symm.trans hf
    refine lv_iconst (v := (-1)) hx hb dX9_puts_16 (by decide) ?_
    have hf := Option.some.inj hf
    rw [← hQ]
    have hf := Prod.mk.inj hf
    exact W.iret (v := (-1)) hx hb hr (fun t ht hW => ⟨⟨_, (), rfl, hf.2, by rw [ht, ← hf.1]; exact hP, by rw [← hf.1]; exact hD⟩, hS.F ht⟩) hS.2.2 dX9_puts_17
  · have hf := (if_neg c_3).symm.trans hf
    refine lv_aload_n hx hb dX9_puts_8 rfl (lv_at hl 0 rfl) ?_
    refine lv_iload_n hx hb dX9_puts_9 rfl (lv_at hl 2 rfl) ?_
    refine vp_callSi (W.runV (As := [.int a2]) (rest := []) ⟨hx, hb, hml, hown, hts⟩ (wX9_isRow l g ad S a2 (fX9_isRow S a2) rfl) (cwV 1 hts (lw_V q1065 q1067 qs36 q70 q1068) rfl rfl rfl (by decide +kernel) ⟨Nat.le_of_ble_eq_true rfl, Nat.le_of_ble_eq_true rfl⟩) (sm_pv hE hP (va_recv hK hP (ci := 9) (q0 := 0) rfl rfl)) rfl rfl hl.1 rfl (lv_room (Nat.le_of_ble_eq_true rfl)) dX9_puts_10 ⟨Nat.le_of_ble_eq_true rfl, Nat.le_of_ble_eq_true rfl⟩) (fun r_5 er_4 => ?_)
    have er_4 := er_4.symm
    subst er_4
    refine lv_if_ne (tgt := 18) hx hb dX9_puts_13 (by decide) (fun c_6 => ?_) (fun c_6 => ?_)
    · have hf := (if_neg c_6).symm.trans hf
      refine lv_aload_n hx hb dX9_puts_18 rfl (lv_at hl 0 rfl) ?_
      refine va_get (D := (g.1, g.2.1)) (ci := 9) (v := .ref (ad 4)) (C := RX9) (T := TX9) (N := 39) hx hb hts in_X9 hown hK hP 0 rfl rfl 4 (by decide) (hts _ q860) (fun _ h9 => h9) rfl dX9_puts_19 ?_
      refine lv_iconst (v := 2) hx hb dX9_puts_22 (by decide) ?_
      refine lv_iload_n hx hb dX9_puts_23 rfl (lv_at hl 1 rfl) ?_
      refine lv_imul hx hb dX9_puts_24 ?_
      obtain ⟨hg, hf⟩ := sm_gd_e hf
      refine va_iald hx hb hK hP 1 0 rfl rfl (sm_in hg) dX9_puts_25 ?_
      refine lv_aload_n hx hb dX9_puts_26 rfl (lv_at hl 0 rfl) ?_
      refine va_get (D := (g.1, g.2.1)) (ci := 9) (v := .ref (ad 7)) (C := RX9) (T := TX9) (N := 39) hx hb hts in_X9 hown hK hP 0 rfl rfl 7 (by decide) (hts _ q863) (fun _ h9 => h9) rfl dX9_puts_27 ?_
      refine lv_iconst (v := 0) hx hb dX9_puts_30 (by decide) ?_
      refine va_iald hx hb hK hP 3 0 rfl rfl (sm_in rfl) dX9_puts_31 ?_
      refine lv_icmp_gt (tgt := 61) hx hb dX9_puts_32 (by decide) (fun c_7 => ?_) (fun c_7 => ?_)
      · have hf := (if_pos c_7).symm.trans hf
        refine lv_bipush (v := (-2)) hx hb dX9_puts_61 (by decide) ?_
        have hf := Option.some.inj hf
        rw [← hQ]
        have hf := Prod.mk.inj hf
        exact W.iret (v := (-2)) hx hb hr (fun t ht hW => ⟨⟨_, (), rfl, hf.2, by rw [ht, ← hf.1]; exact hP, by rw [← hf.1]; exact hD⟩, hS.F ht⟩) hS.2.2 dX9_puts_63
      · have hf := (if_neg c_7).symm.trans hf
        refine lv_aload_n hx hb dX9_puts_35 rfl (lv_at hl 0 rfl) ?_
        refine va_get (D := (g.1, g.2.1)) (ci := 9) (v := .ref (ad 7)) (C := RX9) (T := TX9) (N := 39) hx hb hts in_X9 hown hK hP 0 rfl rfl 7 (by decide) (hts _ q863) (fun _ h9 => h9) rfl dX9_puts_36 ?_
        refine lv_iconst (v := 2) hx hb dX9_puts_39 (by decide) ?_
        refine lv_iload_n hx hb dX9_puts_40 rfl (lv_at hl 1 rfl) ?_
        refine lv_iadd hx hb dX9_puts_41 ?_
        obtain ⟨hg, hf⟩ := sm_gd_e hf
        refine va_iald hx hb hK hP 3 0 rfl rfl (sm_in hg) dX9_puts_42 ?_
        refine lv_bipush (v := (-9)) hx hb dX9_puts_43 (by decide) ?_
        refine lv_icmp_ne (tgt := 61) hx hb dX9_puts_45 (by decide) (fun c_8 => ?_) (fun c_8 => ?_)
        · have hf := (if_neg c_8).symm.trans hf
          refine lv_bipush (v := (-2)) hx hb dX9_puts_61 (by decide) ?_
          have hf := Option.some.inj hf
          rw [← hQ]
          have hf := Prod.mk.inj hf
          exact W.iret (v := (-2)) hx hb hr (fun t ht hW => ⟨⟨_, (), rfl, hf.2, by rw [ht, ← hf.1]; exact hP, by rw [← hf.1]; exact hD⟩, hS.F ht⟩) hS.2.2 dX9_puts_63
        · have hf := (if_pos c_8).symm.trans hf
          refine lv_aload_n hx hb dX9_puts_48 rfl (lv_at hl 0 rfl) ?_
          refine va_get (D := (g.1, g.2.1)) (ci := 9) (v := .ref (ad 7)) (C := RX9) (T := TX9) (N := 39) hx hb hts in_X9 hown hK hP 0 rfl rfl 7 (by decide) (hts _ q863) (fun _ h9 => h9) rfl dX9_puts_49 ?_
          refine lv_bipush (v := 14) hx hb dX9_puts_52 (by decide) ?_
          refine lv_iload_n hx hb dX9_puts_54 rfl (lv_at hl 1 rfl) ?_
          refine lv_iadd hx hb dX9_puts_55 ?_
          obtain ⟨hg, hf⟩ := sm_gd_e hf
          refine va_iald hx hb hK hP 3 0 rfl rfl (sm_in hg) dX9_puts_56 ?_
          refine lv_iconst (v := 1) hx hb dX9_puts_57 (by decide) ?_
          refine lv_icmp_ne (tgt := 64) hx hb dX9_puts_58 (by decide) (fun c_9 => ?_) (fun c_9 => ?_)
          · have hf := (if_neg c_9).symm.trans hf
            refine lv_aload_n hx hb dX9_puts_64 rfl (lv_at hl 0 rfl) ?_
            obtain ⟨S_10, h_11, hf⟩ := sm_b1_e hf
            refine va_callv (va_runV (As := []) (rest := []) ⟨hx, hb, hml, hown, hts⟩ (wX9_remembers l g ad S  S_10 h_11) (cwV 0 hts (lw_V q1069 q1071 qs37 q70 q1072) rfl rfl rfl (by decide +kernel) ⟨Nat.le_of_ble_eq_true rfl, Nat.le_of_ble_eq_true rfl⟩) (sm_pe hE hP hD (va_recv hK hP (ci := 9) (q0 := 0) rfl rfl)) rfl rfl hl.1 rfl (lv_room (Nat.le_of_ble_eq_true rfl)) dX9_puts_65 ⟨Nat.le_of_ble_eq_true rfl, Nat.le_of_ble_eq_true rfl⟩) hS (fun _ _ h => h) (fun _ h => h) (fun u t H locs ht hvm er_12 hB hz hk hS => ?_)
            obtain ⟨hP, hD⟩ := hB
            rw [ht] at hP
            refine lv_aload_n hx hb dX9_puts_68 rfl (lv_at hl 0 rfl) ?_
            refine va_get (D := (g.1, g.2.1)) (ci := 9) (v := .ref (ad 7)) (C := RX9) (T := TX9) (N := 39) hx hb hts in_X9 hown hK hP 0 rfl rfl 7 (by decide) (hts _ q863) (fun _ h9 => h9) rfl dX9_puts_69 ?_
            refine lv_iconst (v := 2) hx hb dX9_puts_72 (by decide) ?_
            refine lv_iload_n hx hb dX9_puts_73 rfl (lv_at hl 1 rfl) ?_
            refine lv_iadd hx hb dX9_puts_74 ?_
            refine lv_iload_n hx hb dX9_puts_75 rfl (lv_at hl 2 rfl) ?_
            obtain ⟨hg, hf⟩ := sm_gd_e hf
            refine va_iast (i := 2 + a1) (x := a2) hx hb hK hP hD hS 3 0 rfl rfl (sm_in hg) dX9_puts_76 (fun H locs hP hD hS => ?_)
            obtain ⟨S_14, eS_14, hf⟩ := sm_lt_e hf
            have hP : PP g (WM g ad S_14) H := by rw [eS_14]; exact pmr7 hP
            have hD : va_D (AM ad) (WM g ad S_14) := by rw [eS_14]; exact dmr7 hD
            refine lv_iconst (v := 0) hx hb dX9_puts_77 (by decide) ?_
            refine lv_istore_n (lv' := [(3, .int 0), (0, .ref (ad 0)), (1, .int a1), (2, .int a2)]) hx hb dX9_puts_78 rfl hl (by decide) rfl (fun ls hl => ?_)
            refine lv_iconst (v := 0) hx hb dX9_puts_79 (by decide) ?_
            refine lv_istore (lv' := [(4, .int 0), (3, .int 0), (0, .ref (ad 0)), (1, .int a1), (2, .int a2)]) hx hb dX9_puts_80 hl (by decide) rfl (fun ls hl => ?_)
            have L_23 : ∀ (n : Nat) (x_15 : Int32) (x_16 : Int32) (S_17 : MS) (o_24 : Int32) (o_25 : Int32) (o_26 : MS) (H : Heap) (locs : List Loc) (ls : Array Slot), sm_lp (fun q => fX9_puts_82 a2 q.1 q.2.1 q.2.2) n (x_15, x_16, S_17) = some (o_24, o_25, o_26) → PP g (WM g ad S_17) H → va_D (AM ad) (WM g ad S_17) → va_S (AM ad) s.heap H locs → lv_has ls 6 [(0, .ref (ad 0)), (1, .int a1), (2, .int a2), (4, .int x_15), (3, .int x_16)] → (∀ (H : Heap) (locs : List Loc) (ls : Array Slot), PP g (WM g ad o_26) H → va_D (AM ad) (WM g ad o_26) → va_S (AM ad) s.heap H locs → lv_has ls 6 [(0, .ref (ad 0)), (1, .int a1), (2, .int a2), (4, .int o_24), (3, .int o_25)] → W p l e rX9_puts s m args below meth c H locs 0 0 Q (F0 m 159 ls [])) → W p l e rX9_puts s m args below meth c H locs 0 0 Q (F0 m 82 ls []) := by
              intro n
              induction n with
              | zero =>
                intro _ _ _ _ _ _ _ _ _ hf
                cases hf
              | succ n ih_18 =>
                intro x_15 x_16 S_17 o_24 o_25 o_26 H locs ls hf hP hD hS hl kx_19
                obtain ⟨q, hf, hc_22⟩ := sm_bnd hf
                have hf : fX9_puts_82 a2 x_15 x_16 S_17 = some q := hf
                unfold fX9_puts_82 at hf
                refine lv_iload hx hb dX9_puts_82 (lv_at hl 3 rfl) ?_
                refine lv_aload_n hx hb dX9_puts_84 rfl (lv_at hl 0 rfl) ?_
                refine va_get (D := (g.1, g.2.1)) (ci := 9) (v := .int (S_17.1 3)) (C := RX9) (T := TX9) (N := 39) hx hb hts in_X9 hown hK hP 0 rfl rfl 3 (by decide) (hts _ q859) (fun _ h9 => h9) rfl dX9_puts_85 ?_
                refine lv_icmp_ge (tgt := 159) hx hb dX9_puts_88 (by decide) (fun c_27 => ?_) (fun c_27 => ?_)
                · have hf := (if_pos c_27).symm.trans hf
                  cases hf
                  have hc_22 : some (x_15, x_16, S_17) = some (o_24, o_25, o_26) := hc_22
                  cases hc_22
                  exact kx_19 _ _ _ hP hD hS (lv_sub hl [0, 1, 2, 3, 4] rfl)
                · have hf := (if_neg c_27).symm.trans hf
                  refine lv_aload_n hx hb dX9_puts_91 rfl (lv_at hl 0 rfl) ?_
                  refine va_get (D := (g.1, g.2.1)) (ci := 9) (v := .ref (ad 7)) (C := RX9) (T := TX9) (N := 39) hx hb hts in_X9 hown hK hP 0 rfl rfl 7 (by decide) (hts _ q863) (fun _ h9 => h9) rfl dX9_puts_92 ?_
                  refine lv_iconst (v := 2) hx hb dX9_puts_95 (by decide) ?_
                  refine lv_iload hx hb dX9_puts_96 (lv_at hl 3 rfl) ?_
                  refine lv_iadd hx hb dX9_puts_98 ?_
                  obtain ⟨hg, hf⟩ := sm_gd_e hf
                  refine va_iald hx hb hK hP 3 0 rfl rfl (sm_in hg) dX9_puts_99 ?_
                  refine lv_iload_n hx hb dX9_puts_100 rfl (lv_at hl 2 rfl) ?_
                  obtain ⟨x_28, hf, hf0⟩ := sm_b1_e hf
                  suffices hj_29 : ∀ (ls : Array Slot), lv_has ls 6 [(0, .ref (ad 0)), (1, .int a1), (2, .int a2), (4, .int x_15), (3, .int x_16)] → W p l e rX9_puts s m args below meth c H locs 0 0 Q (F0 m 109 ls [.int x_28]) from by
                    refine lv_icmp_ne (tgt := 108) hx hb dX9_puts_101 (by decide) (fun c_30 => ?_) (fun c_30 => ?_)
                    · have hf := (if_neg c_30).symm.trans hf
                      refine lv_iconst (v := 0) hx hb dX9_puts_108 (by decide) ?_
                      cases hf
                      exact hj_29 _ (lv_sub hl [0, 1, 2, 3, 4] rfl)
                    · have hf := (if_pos c_30).symm.trans hf
                      refine lv_iconst (v := 1) hx hb dX9_puts_104 (by decide) ?_
                      refine lv_goto (tgt := 109) hx hb dX9_puts_105 (by decide) ?_
                      cases hf
                      exact hj_29 _ (lv_sub hl [0, 1, 2, 3, 4] rfl)
                  intro ls hl
                  have hf := hf0
                  refine lv_istore (lv' := [(5, .int x_28), (0, .ref (ad 0)), (1, .int a1), (2, .int a2), (4, .int x_15), (3, .int x_16)]) hx hb dX9_puts_109 hl (by decide) rfl (fun ls hl => ?_)
                  refine lv_aload_n hx hb dX9_puts_111 rfl (lv_at hl 1 rfl) ?_
                  refine va_get (D := (g.1, g.2.1)) (ci := 9) (v := .ref (ad 7)) (C := RX9) (T := TX9) (N := 39) hx hb hts in_X9 hown hK hP 0 rfl rfl 7 (by decide) (hts _ q863) (fun _ h9 => h9) rfl dX9_puts_112 ?_
                  refine lv_bipush (v := 8) hx hb dX9_puts_115 (by decide) ?_
                  refine lv_iload hx hb dX9_puts_117 (lv_at hl 4 rfl) ?_
                  refine lv_iadd hx hb dX9_puts_119 ?_
                  refine lv_iload hx hb dX9_puts_120 (lv_at hl 0 rfl) ?_
                  obtain ⟨x_31, hf, hf0⟩ := sm_b1_e hf
                  suffices hj_32 : ∀ (ls : Array Slot), lv_has ls 6 [(5, .int x_28), (0, .ref (ad 0)), (1, .int a1), (2, .int a2), (4, .int x_15), (3, .int x_16)] → W p l e rX9_puts s m args below meth c H locs 0 0 Q (F0 m 139 ls [.int x_31, .int (8 + x_15), .ref (ad 7)]) from by
                    refine lv_if_eq (tgt := 129) hx hb dX9_puts_122 (by decide) (fun c_33 => ?_) (fun c_33 => ?_)
                    · have hf := (if_pos c_33).symm.trans hf
                      refine lv_aload_n hx hb dX9_puts_129 rfl (lv_at hl 1 rfl) ?_
                      refine va_get (D := (g.1, g.2.1)) (ci := 9) (v := .ref (ad 7)) (C := RX9) (T := TX9) (N := 39) hx hb hts in_X9 hown hK hP 0 rfl rfl 7 (by decide) (hts _ q863) (fun _ h9 => h9) rfl dX9_puts_130 ?_
                      refine lv_bipush (v := 8) hx hb dX9_puts_133 (by decide) ?_
                      refine lv_iload hx hb dX9_puts_135 (lv_at hl 4 rfl) ?_
                      refine lv_iadd hx hb dX9_puts_137 ?_
                      obtain ⟨hg, hf⟩ := sm_gd_e hf
                      refine va_iald hx hb hK hP 3 0 rfl rfl (sm_in hg) dX9_puts_138 ?_
                      cases hf
                      exact hj_32 _ (lv_sub hl [0, 1, 2, 3, 4, 5] rfl)
                    · have hf := (if_neg c_33).symm.trans hf
                      refine lv_iconst (v := 0) hx hb dX9_puts_125 (by decide) ?_
                      refine lv_goto (tgt := 139) hx hb dX9_puts_126 (by decide) ?_
                      cases hf
                      exact hj_32 _ (lv_sub hl [0, 1, 2, 3, 4, 5] rfl)
                  intro ls hl
                  have hf := hf0
                  obtain ⟨hg, hf⟩ := sm_gd_e hf
                  refine va_iast (i := 8 + x_15) (x := x_31) hx hb hK hP hD hS 3 0 rfl rfl (sm_in hg) dX9_puts_139 (fun H locs hP hD hS => ?_)
                  obtain ⟨S_34, eS_34, hf⟩ := sm_lt_e hf
                  have hP : PP g (WM g ad S_34) H := by rw [eS_34]; exact pmr7 hP
                  have hD : va_D (AM ad) (WM g ad S_34) := by rw [eS_34]; exact dmr7 hD
                  refine lv_iload_n hx hb dX9_puts_140 rfl (lv_at hl 5 rfl) ?_
                  refine lv_iload hx hb dX9_puts_141 (lv_at hl 0 rfl) ?_
                  refine lv_if_eq (tgt := 150) hx hb dX9_puts_143 (by decide) (fun c_35 => ?_) (fun c_35 => ?_)
                  · have hf := (if_pos c_35).symm.trans hf
                    refine lv_iconst (v := 0) hx hb dX9_puts_150 (by decide) ?_
                    refine lv_iadd hx hb dX9_puts_151 ?_
                    refine lv_istore_n (lv' := [(3, .int (x_16 + 0)), (5, .int x_28), (0, .ref (ad 0)), (1, .int a1), (2, .int a2), (4, .int x_15)]) hx hb dX9_puts_152 rfl hl (by decide) rfl (fun ls hl => ?_)
                    refine lv_iinc (v := x_15 + 1) (lv' := [(4, .int (x_15 + 1)), (3, .int (x_16 + 0)), (5, .int x_28), (0, .ref (ad 0)), (1, .int a1), (2, .int a2)]) hx hb dX9_puts_153 hl (k := 5) rfl rfl (by decide) rfl (fun ls hl => ?_)
                    refine lv_goto (tgt := 82) hx hb dX9_puts_156 (by decide) ?_
                    cases hf
                    exact ih_18 _ _ _ _ _ _ _ _ _ hc_22 hP hD hS (lv_sub hl [3, 4, 5, 0, 1] rfl) kx_19
                  · have hf := (if_neg c_35).symm.trans hf
                    refine lv_iconst (v := 1) hx hb dX9_puts_146 (by decide) ?_
                    refine lv_goto (tgt := 151) hx hb dX9_puts_147 (by decide) ?_
                    refine lv_iadd hx hb dX9_puts_151 ?_
                    refine lv_istore_n (lv' := [(3, .int (x_16 + 1)), (5, .int x_28), (0, .ref (ad 0)), (1, .int a1), (2, .int a2), (4, .int x_15)]) hx hb dX9_puts_152 rfl hl (by decide) rfl (fun ls hl => ?_)
                    refine lv_iinc (v := x_15 + 1) (lv' := [(4, .int (x_15 + 1)), (3, .int (x_16 + 1)), (5, .int x_28), (0, .ref (ad 0)), (1, .int a1), (2, .int a2)]) hx hb dX9_puts_153 hl (k := 5) rfl rfl (by decide) rfl (fun ls hl => ?_)
                    refine lv_goto (tgt := 82) hx hb dX9_puts_156 (by decide) ?_
                    cases hf
                    exact ih_18 _ _ _ _ _ _ _ _ _ hc_22 hP hD hS (lv_sub hl [3, 4, 5, 0, 1] rfl) kx_19
            obtain ⟨x_37, x_38, S_39, ho, hf⟩ := sm_b3_e hf
            refine L_23 FU 0 0 S_14 x_37 x_38 S_39 H locs ls ho hP hD hS (lv_sub hl [2, 3, 4, 0, 1] rfl) ?_
            intro H locs ls hP hD hS hl
            refine lv_iload_n hx hb dX9_puts_159 rfl (lv_at hl 4 rfl) ?_
            have hf := Option.some.inj hf
            rw [← hQ]
            have hf := Prod.mk.inj hf
            exact W.iret (v := x_38) hx hb hr (fun t ht hW => ⟨⟨_, (), rfl, hf.2, by rw [ht, ← hf.1]; exact hP, by rw [← hf.1]; exact hD⟩, hS.F ht⟩) hS.2.2 dX9_puts_160
          · have hf := (if_pos c_9).symm.trans hf
            refine lv_bipush (v := (-2)) hx hb dX9_puts_61 (by decide) ?_
            have hf := Option.some.inj hf
            rw [← hQ]
            have hf := Prod.mk.inj hf
            exact W.iret (v := (-2)) hx hb hr (fun t ht hW => ⟨⟨_, (), rfl, hf.2, by rw [ht, ← hf.1]; exact hP, by rw [← hf.1]; exact hD⟩, hS.F ht⟩) hS.2.2 dX9_puts_63
    · have hf := (if_pos c_6).symm.trans hf
      refine lv_iconst (v := (-1)) hx hb dX9_puts_16 (by decide) ?_
      have hf := Option.some.inj hf
      rw [← hQ]
      have hf := Prod.mk.inj hf
      exact W.iret (v := (-1)) hx hb hr (fun t ht hW => ⟨⟨_, (), rfl, hf.2, by rw [ht, ← hf.1]; exact hP, by rw [← hf.1]; exact hD⟩, hS.F ht⟩) hS.2.2 dX9_puts_17
abbrev rX9_sailedBy : Room := { frames := 0, cells := 0, slots := 0, locals := 0 }
set_option maxHeartbeats 4000000 in
theorem wX9_sailedBy (l : Launch) (g : GG) (ad : Nat → Nat) (S : MS) (a1 : Int32) (rf : Int32) (hf : fX9_sailedBy S a1 = some rf) : Met l yX9_sailedBy (ws_ yX9_sailedBy cX9_sailedBy 4 (some .int)) rX9_sailedBy (va_Pc [.ref (ad 0), .int a1] (fun U => PP g (WM g ad S) U.heap ∧ EV g U)) (vp_Si (fun y => y = rf)) 0 0 (fun _ => False) := by
  refine sm_st (by decide) ?_
  intro p e s m args below meth c hx hb hr hlocks hml hown hnm hts hv
  obtain ⟨hargs, hP, hE⟩ := hv
  obtain ⟨hK, hN⟩ := id hE
  have hown : s.vm.findClass RX9 = some m.cls := hown
  refine sm_en _ (Nat.le_of_ble_eq_true rfl) hargs (fun ls hl => ?_)
  have hl : lv_has ls 4 [(0, .ref (ad 0)), (1, .int a1)] := hl
  generalize hQ : MQ below _ args s _ _ _ = Q
  unfold fX9_sailedBy at hf
  refine lv_iconst (v := 0) hx hb dX9_sailedBy_0 (by decide) ?_
  refine lv_istore_n (lv' := [(2, .int 0), (0, .ref (ad 0)), (1, .int a1)]) hx hb dX9_sailedBy_1 rfl hl (by decide) rfl (fun ls hl => ?_)
  refine lv_iconst (v := 0) hx hb dX9_sailedBy_2 (by decide) ?_
  refine lv_istore_n (lv' := [(3, .int 0), (2, .int 0), (0, .ref (ad 0)), (1, .int a1)]) hx hb dX9_sailedBy_3 rfl hl (by decide) rfl (fun ls hl => ?_)
  have L_8 : ∀ (n : Nat) (x_1 : Int32) (x_2 : Int32) (o_9 : Int32) (o_10 : Int32) (ls : Array Slot), sm_lp (fun q => fX9_sailedBy_4 S a1 q.1 q.2) n (x_1, x_2) = some (o_9, o_10) → lv_has ls 4 [(0, .ref (ad 0)), (1, .int a1), (3, .int x_1), (2, .int x_2)] → (∀ (ls : Array Slot), lv_has ls 4 [(0, .ref (ad 0)), (1, .int a1), (3, .int o_9), (2, .int o_10)] → W p l e rX9_sailedBy s m args below meth c s.heap [] 0 0 Q (F0 m 36 ls [])) → W p l e rX9_sailedBy s m args below meth c s.heap [] 0 0 Q (F0 m 4 ls []) := by
    intro n
    induction n with
    | zero =>
      intro _ _ _ _ _ hf
      cases hf
    | succ n ih_3 =>
      intro x_1 x_2 o_9 o_10 ls hf hl kx_4
      obtain ⟨q, hf, hc_7⟩ := sm_bnd hf
      have hf : fX9_sailedBy_4 S a1 x_1 x_2 = some q := hf
      unfold fX9_sailedBy_4 at hf
      refine lv_iload_n hx hb dX9_sailedBy_4 rfl (lv_at hl 2 rfl) ?_
      refine lv_aload_n hx hb dX9_sailedBy_5 rfl (lv_at hl 0 rfl) ?_
      refine va_get (D := (g.1, g.2.1)) (ci := 9) (v := .int (S.1 3)) (C := RX9) (T := TX9) (N := 39) hx hb hts in_X9 hown hK hP 0 rfl rfl 3 (by decide) (hts _ q859) (fun _ h9 => h9) rfl dX9_sailedBy_6 ?_
      refine lv_icmp_ge (tgt := 36) hx hb dX9_sailedBy_9 (by decide) (fun c_11 => ?_) (fun c_11 => ?_)
      · have hf := (if_pos c_11).symm.trans hf
        cases hf
        have hc_7 : some (x_1, x_2) = some (o_9, o_10) := hc_7
        cases hc_7
        exact kx_4 _ (lv_sub hl [0, 1, 2, 3] rfl)
      · have hf := (if_neg c_11).symm.trans hf
        refine lv_iload_n hx hb dX9_sailedBy_12 rfl (lv_at hl 3 rfl) ?_
        refine lv_aload_n hx hb dX9_sailedBy_13 rfl (lv_at hl 0 rfl) ?_
        refine va_get (D := (g.1, g.2.1)) (ci := 9) (v := .ref (ad 33)) (C := RX9) (T := TX9) (N := 39) hx hb hts in_X9 hown hK hP 0 rfl rfl 33 (by decide) (hts _ q889) (fun _ h9 => h9) rfl dX9_sailedBy_14 ?_
        refine lv_iload_n hx hb dX9_sailedBy_17 rfl (lv_at hl 2 rfl) ?_
        obtain ⟨hg, hf⟩ := sm_gd_e hf
        refine va_iald hx hb hK hP 16 0 rfl rfl (sm_in hg) dX9_sailedBy_18 ?_
        refine lv_iload_n hx hb dX9_sailedBy_19 rfl (lv_at hl 1 rfl) ?_
        refine lv_icmp_gt (tgt := 27) hx hb dX9_sailedBy_20 (by decide) (fun c_12 => ?_) (fun c_12 => ?_)
        · have hf := (if_pos c_12).symm.trans hf
          refine lv_iconst (v := 0) hx hb dX9_sailedBy_27 (by decide) ?_
          refine lv_iadd hx hb dX9_sailedBy_28 ?_
          refine lv_istore_n (lv' := [(2, .int (x_2 + 0)), (0, .ref (ad 0)), (1, .int a1), (3, .int x_1)]) hx hb dX9_sailedBy_29 rfl hl (by decide) rfl (fun ls hl => ?_)
          refine lv_iinc (v := x_1 + 1) (lv' := [(3, .int (x_1 + 1)), (2, .int (x_2 + 0)), (0, .ref (ad 0)), (1, .int a1)]) hx hb dX9_sailedBy_30 hl (k := 3) rfl rfl (by decide) rfl (fun ls hl => ?_)
          refine lv_goto (tgt := 4) hx hb dX9_sailedBy_33 (by decide) ?_
          cases hf
          exact ih_3 _ _ _ _ _ hc_7 (lv_sub hl [2, 3, 0, 1] rfl) kx_4
        · have hf := (if_neg c_12).symm.trans hf
          refine lv_iconst (v := 1) hx hb dX9_sailedBy_23 (by decide) ?_
          refine lv_goto (tgt := 28) hx hb dX9_sailedBy_24 (by decide) ?_
          refine lv_iadd hx hb dX9_sailedBy_28 ?_
          refine lv_istore_n (lv' := [(2, .int (x_2 + 1)), (0, .ref (ad 0)), (1, .int a1), (3, .int x_1)]) hx hb dX9_sailedBy_29 rfl hl (by decide) rfl (fun ls hl => ?_)
          refine lv_iinc (v := x_1 + 1) (lv' := [(3, .int (x_1 + 1)), (2, .int (x_2 + 1)), (0, .ref (ad 0)), (1, .int a1)]) hx hb dX9_sailedBy_30 hl (k := 3) rfl rfl (by decide) rfl (fun ls hl => ?_)
          refine lv_goto (tgt := 4) hx hb dX9_sailedBy_33 (by decide) ?_
          cases hf
          exact ih_3 _ _ _ _ _ hc_7 (lv_sub hl [2, 3, 0, 1] rfl) kx_4
  obtain ⟨x_14, x_15, ho, hf⟩ := sm_b2_e hf
  refine L_8 FU 0 0 x_14 x_15 ls ho (lv_sub hl [2, 3, 0, 1] rfl) ?_
  intro ls hl
  refine lv_iload_n hx hb dX9_sailedBy_36 rfl (lv_at hl 3 rfl) ?_
  have hf := Option.some.inj hf
  rw [← hQ]
  exact W.iret (v := x_15) hx hb hr (fun t ht hW => ⟨_, rfl, hf, ht⟩) (fun _ h => by cases h) dX9_sailedBy_37
abbrev rX9_sailsOn : Room := { frames := 0, cells := 0, slots := 0, locals := 0 }
set_option maxHeartbeats 4000000 in
theorem wX9_sailsOn (l : Launch) (g : GG) (ad : Nat → Nat) (S : MS) (a1 : Int32) (rf : Int32) (hf : fX9_sailsOn S a1 = some rf) : Met l yX9_sailsOn (ws_ yX9_sailsOn cX9_sailsOn 2 (some .boolean)) rX9_sailsOn (va_Pc [.ref (ad 0), .int a1] (fun U => PP g (WM g ad S) U.heap ∧ EV g U)) (vp_Si (fun y => y = rf)) 0 0 (fun _ => False) := by
  refine sm_st (by decide) ?_
  intro p e s m args below meth c hx hb hr hlocks hml hown hnm hts hv
  obtain ⟨hargs, hP, hE⟩ := hv
  obtain ⟨hK, hN⟩ := id hE
  have hown : s.vm.findClass RX9 = some m.cls := hown
  refine sm_en _ (Nat.le_of_ble_eq_true rfl) hargs (fun ls hl => ?_)
  have hl : lv_has ls 2 [(0, .ref (ad 0)), (1, .int a1)] := hl
  generalize hQ : MQ below _ args s _ _ _ = Q
  unfold fX9_sailsOn at hf
  refine lv_iload_n hx hb dX9_sailsOn_0 rfl (lv_at hl 1 rfl) ?_
  refine lv_aload_n hx hb dX9_sailsOn_1 rfl (lv_at hl 0 rfl) ?_
  refine va_get (D := (g.1, g.2.1)) (ci := 9) (v := .int (S.1 2)) (C := RX9) (T := TX9) (N := 39) hx hb hts in_X9 hown hK hP 0 rfl rfl 2 (by decide) (hts _ q858) (fun _ h9 => h9) rfl dX9_sailsOn_2 ?_
  obtain ⟨hg, hf⟩ := sm_gd_e hf
  refine lv_irem hx hb dX9_sailsOn_5 (sm_ne hg) ?_
  refine lv_if_ne (tgt := 13) hx hb dX9_sailsOn_6 (by decide) (fun c_1 => ?_) (fun c_1 => ?_)
  · have hf := (if_neg c_1).symm.trans hf
    refine lv_iconst (v := 0) hx hb dX9_sailsOn_13 (by decide) ?_
    have hf := Option.some.inj hf
    rw [← hQ]
    exact W.zret (v := 0) hx hb hr rfl (fun t ht hW => ⟨_, rfl, hf, ht⟩) (fun _ h => by cases h) dX9_sailsOn_14
  · have hf := (if_pos c_1).symm.trans hf
    refine lv_iconst (v := 1) hx hb dX9_sailsOn_9 (by decide) ?_
    refine lv_goto (tgt := 14) hx hb dX9_sailsOn_10 (by decide) ?_
    have hf := Option.some.inj hf
    rw [← hQ]
    exact W.zret (v := 1) hx hb hr rfl (fun t ht hW => ⟨_, rfl, hf, ht⟩) (fun _ h => by cases h) dX9_sailsOn_14
abbrev rX9_boat : Room := { frames := 1, cells := 0, slots := 0, locals := 22 }
set_option maxHeartbeats 4000000 in
theorem wX9_boat (l : Launch) (g : GG) (ad : Nat → Nat) (S : MS) (a1 : Int32) (a2 : Int32) (rf : Int32) (hf : fX9_boat S a1 a2 = some rf) : Met l yX9_boat (ws_ yX9_boat cX9_boat 8 (some .int)) rX9_boat (va_Pc [.ref (ad 0), .int a1, .int a2] (fun U => PP g (WM g ad S) U.heap ∧ EV g U)) (vp_Si (fun y => y = rf)) 0 0 (fun _ => False) := by
  refine sm_st (by decide) ?_
  intro p e s m args below meth c hx hb hr hlocks hml hown hnm hts hv
  obtain ⟨hargs, hP, hE⟩ := hv
  obtain ⟨hK, hN⟩ := id hE
  have hown : s.vm.findClass RX9 = some m.cls := hown
  refine sm_en _ (Nat.le_of_ble_eq_true rfl) hargs (fun ls hl => ?_)
  have hl : lv_has ls 8 [(0, .ref (ad 0)), (1, .int a1), (2, .int a2)] := hl
  generalize hQ : MQ below _ args s _ _ _ = Q
  unfold fX9_boat at hf
  refine lv_iload_n hx hb dX9_boat_0 rfl (lv_at hl 1 rfl) ?_
  refine lv_iconst (v := 1) hx hb dX9_boat_1 (by decide) ?_
  refine lv_bipush (v := 60) hx hb dX9_boat_2 (by decide) ?_
  refine vp_callSi (W.runS (As := [.int a1, .int 1, .int 60]) (rest := []) ⟨hx, hb, hml, hown, hts⟩ (wX9_in l a1 1 60 (fX9_in a1 1 60) rfl) (va_cwS 3 hts (lw_S q979 q980 q70 q981) rfl rfl rfl (by decide +kernel) ⟨Nat.le_of_ble_eq_true rfl, Nat.le_of_ble_eq_true rfl⟩) (sm_ps) rfl rfl hl.1 rfl (lv_room (Nat.le_of_ble_eq_true rfl)) dX9_boat_4 ⟨Nat.le_of_ble_eq_true rfl, Nat.le_of_ble_eq_true rfl⟩) (fun r_2 er_1 => ?_)
  have er_1 := er_1.symm
  subst er_1
  refine lv_if_eq (tgt := 19) hx hb dX9_boat_7 (by decide) (fun c_3 => ?_) (fun c_3 => ?_)
  · have hf := (if_pos c_3).symm.trans hf
    refine lv_iconst (v := (-1)) hx hb dX9_boat_19 (by decide) ?_
    have hf := Option.some.inj hf
    rw [← hQ]
    exact W.iret (v := (-1)) hx hb hr (fun t ht hW => ⟨_, rfl, hf, ht⟩) (fun _ h => by cases h) dX9_boat_20
  · have hf := (if_neg c_3).symm.trans hf
    refine lv_iload_n hx hb dX9_boat_10 rfl (lv_at hl 2 rfl) ?_
    refine lv_iconst (v := 0) hx hb dX9_boat_11 (by decide) ?_
    refine lv_iconst (v := 1) hx hb dX9_boat_12 (by decide) ?_
    refine vp_callSi (W.runS (As := [.int a2, .int 0, .int 1]) (rest := []) ⟨hx, hb, hml, hown, hts⟩ (wX9_in l a2 0 1 (fX9_in a2 0 1) rfl) (va_cwS 3 hts (lw_S q979 q980 q70 q981) rfl rfl rfl (by decide +kernel) ⟨Nat.le_of_ble_eq_true rfl, Nat.le_of_ble_eq_true rfl⟩) (sm_ps) rfl rfl hl.1 rfl (lv_room (Nat.le_of_ble_eq_true rfl)) dX9_boat_13 ⟨Nat.le_of_ble_eq_true rfl, Nat.le_of_ble_eq_true rfl⟩) (fun r_5 er_4 => ?_)
    have er_4 := er_4.symm
    subst er_4
    refine lv_if_ne (tgt := 21) hx hb dX9_boat_16 (by decide) (fun c_6 => ?_) (fun c_6 => ?_)
    · have hf := (if_neg c_6).symm.trans hf
      refine lv_bipush (v := (-9)) hx hb dX9_boat_21 (by decide) ?_
      refine lv_istore_n (lv' := [(3, .int (-9)), (0, .ref (ad 0)), (1, .int a1), (2, .int a2)]) hx hb dX9_boat_23 rfl hl (by decide) rfl (fun ls hl => ?_)
      refine lv_iconst (v := 0) hx hb dX9_boat_24 (by decide) ?_
      refine lv_istore (lv' := [(4, .int 0), (3, .int (-9)), (0, .ref (ad 0)), (1, .int a1), (2, .int a2)]) hx hb dX9_boat_25 hl (by decide) rfl (fun ls hl => ?_)
      refine lv_iconst (v := 0) hx hb dX9_boat_27 (by decide) ?_
      refine lv_istore (lv' := [(5, .int 0), (4, .int 0), (3, .int (-9)), (0, .ref (ad 0)), (1, .int a1), (2, .int a2)]) hx hb dX9_boat_28 hl (by decide) rfl (fun ls hl => ?_)
      have L_15 : ∀ (n : Nat) (x_7 : Int32) (x_8 : Int32) (x_9 : Int32) (o_16 : Int32) (o_17 : Int32) (o_18 : Int32) (ls : Array Slot), sm_lp (fun q => fX9_boat_30 S a1 q.1 q.2.1 q.2.2) n (x_7, x_8, x_9) = some (o_16, o_17, o_18) → lv_has ls 8 [(0, .ref (ad 0)), (1, .int a1), (2, .int a2), (5, .int x_7), (4, .int x_8), (3, .int x_9)] → (∀ (ls : Array Slot), lv_has ls 8 [(0, .ref (ad 0)), (1, .int a1), (2, .int a2), (5, .int o_16), (4, .int o_17), (3, .int o_18)] → W p l e rX9_boat s m args below meth c s.heap [] 0 0 Q (F0 m 170 ls [])) → W p l e rX9_boat s m args below meth c s.heap [] 0 0 Q (F0 m 30 ls []) := by
        intro n
        induction n with
        | zero =>
          intro _ _ _ _ _ _ _ hf
          cases hf
        | succ n ih_10 =>
          intro x_7 x_8 x_9 o_16 o_17 o_18 ls hf hl kx_11
          obtain ⟨q, hf, hc_14⟩ := sm_bnd hf
          have hf : fX9_boat_30 S a1 x_7 x_8 x_9 = some q := hf
          unfold fX9_boat_30 at hf
          refine lv_iload hx hb dX9_boat_30 (lv_at hl 3 rfl) ?_
          refine lv_iload_n hx hb dX9_boat_32 rfl (lv_at hl 1 rfl) ?_
          refine lv_icmp_gt (tgt := 170) hx hb dX9_boat_33 (by decide) (fun c_19 => ?_) (fun c_19 => ?_)
          · have hf := (if_pos c_19).symm.trans hf
            cases hf
            have hc_14 : some (x_7, x_8, x_9) = some (o_16, o_17, o_18) := hc_14
            cases hc_14
            exact kx_11 _ (lv_sub hl [0, 1, 2, 3, 4, 5] rfl)
          · have hf := (if_neg c_19).symm.trans hf
            refine lv_iconst (v := 0) hx hb dX9_boat_36 (by decide) ?_
            refine lv_istore (lv' := [(6, .int 0), (0, .ref (ad 0)), (1, .int a1), (2, .int a2), (5, .int x_7), (4, .int x_8), (3, .int x_9)]) hx hb dX9_boat_37 hl (by decide) rfl (fun ls hl => ?_)
            refine lv_iconst (v := 0) hx hb dX9_boat_39 (by decide) ?_
            refine lv_istore (lv' := [(7, .int 0), (6, .int 0), (0, .ref (ad 0)), (1, .int a1), (2, .int a2), (5, .int x_7), (4, .int x_8), (3, .int x_9)]) hx hb dX9_boat_40 hl (by decide) rfl (fun ls hl => ?_)
            have L_27 : ∀ (n : Nat) (x_20 : Int32) (x_21 : Int32) (o_28 : Int32) (o_29 : Int32) (ls : Array Slot), sm_lp (fun q => fX9_boat_42 S x_7 q.1 q.2) n (x_20, x_21) = some (o_28, o_29) → lv_has ls 8 [(0, .ref (ad 0)), (1, .int a1), (2, .int a2), (5, .int x_7), (4, .int x_8), (3, .int x_9), (7, .int x_20), (6, .int x_21)] → (∀ (ls : Array Slot), lv_has ls 8 [(0, .ref (ad 0)), (1, .int a1), (2, .int a2), (5, .int x_7), (4, .int x_8), (3, .int x_9), (7, .int o_28), (6, .int o_29)] → W p l e rX9_boat s m args below meth c s.heap [] 0 0 Q (F0 m 101 ls [])) → W p l e rX9_boat s m args below meth c s.heap [] 0 0 Q (F0 m 42 ls []) := by
              intro n
              induction n with
              | zero =>
                intro _ _ _ _ _ hf
                cases hf
              | succ n ih_22 =>
                intro x_20 x_21 o_28 o_29 ls hf hl kx_23
                obtain ⟨q, hf, hc_26⟩ := sm_bnd hf
                have hf : fX9_boat_42 S x_7 x_20 x_21 = some q := hf
                unfold fX9_boat_42 at hf
                refine lv_iload hx hb dX9_boat_42 (lv_at hl 6 rfl) ?_
                refine lv_aload_n hx hb dX9_boat_44 rfl (lv_at hl 0 rfl) ?_
                refine va_get (D := (g.1, g.2.1)) (ci := 9) (v := .int (S.1 3)) (C := RX9) (T := TX9) (N := 39) hx hb hts in_X9 hown hK hP 0 rfl rfl 3 (by decide) (hts _ q859) (fun _ h9 => h9) rfl dX9_boat_45 ?_
                refine lv_icmp_ge (tgt := 101) hx hb dX9_boat_48 (by decide) (fun c_30 => ?_) (fun c_30 => ?_)
                · have hf := (if_pos c_30).symm.trans hf
                  cases hf
                  have hc_26 : some (x_20, x_21) = some (o_28, o_29) := hc_26
                  cases hc_26
                  exact kx_23 _ (lv_sub hl [0, 1, 2, 3, 4, 5, 6, 7] rfl)
                · have hf := (if_neg c_30).symm.trans hf
                  refine lv_iload hx hb dX9_boat_51 (lv_at hl 7 rfl) ?_
                  refine lv_aload_n hx hb dX9_boat_53 rfl (lv_at hl 0 rfl) ?_
                  refine va_get (D := (g.1, g.2.1)) (ci := 9) (v := .ref (ad 7)) (C := RX9) (T := TX9) (N := 39) hx hb hts in_X9 hown hK hP 0 rfl rfl 7 (by decide) (hts _ q863) (fun _ h9 => h9) rfl dX9_boat_54 ?_
                  refine lv_iconst (v := 2) hx hb dX9_boat_57 (by decide) ?_
                  refine lv_iload hx hb dX9_boat_58 (lv_at hl 6 rfl) ?_
                  refine lv_iadd hx hb dX9_boat_60 ?_
                  obtain ⟨hg, hf⟩ := sm_gd_e hf
                  refine va_iald hx hb hK hP 3 0 rfl rfl (sm_in hg) dX9_boat_61 ?_
                  refine lv_bipush (v := (-9)) hx hb dX9_boat_62 (by decide) ?_
                  refine lv_icmp_eq (tgt := 91) hx hb dX9_boat_64 (by decide) (fun c_31 => ?_) (fun c_31 => ?_)
                  · have hf := (if_pos c_31).symm.trans hf
                    refine lv_iconst (v := 0) hx hb dX9_boat_91 (by decide) ?_
                    refine lv_iadd hx hb dX9_boat_92 ?_
                    refine lv_istore (lv' := [(6, .int (x_21 + 0)), (0, .ref (ad 0)), (1, .int a1), (2, .int a2), (5, .int x_7), (4, .int x_8), (3, .int x_9), (7, .int x_20)]) hx hb dX9_boat_93 hl (by decide) rfl (fun ls hl => ?_)
                    refine lv_iinc (v := x_20 + 1) (lv' := [(7, .int (x_20 + 1)), (6, .int (x_21 + 0)), (0, .ref (ad 0)), (1, .int a1), (2, .int a2), (5, .int x_7), (4, .int x_8), (3, .int x_9)]) hx hb dX9_boat_95 hl (k := 7) rfl rfl (by decide) rfl (fun ls hl => ?_)
                    refine lv_goto (tgt := 42) hx hb dX9_boat_98 (by decide) ?_
                    cases hf
                    exact ih_22 _ _ _ _ _ hc_26 (lv_sub hl [2, 3, 4, 5, 6, 7, 0, 1] rfl) kx_23
                  · have hf := (if_neg c_31).symm.trans hf
                    refine lv_aload_n hx hb dX9_boat_67 rfl (lv_at hl 0 rfl) ?_
                    refine va_get (D := (g.1, g.2.1)) (ci := 9) (v := .ref (ad 7)) (C := RX9) (T := TX9) (N := 39) hx hb hts in_X9 hown hK hP 0 rfl rfl 7 (by decide) (hts _ q863) (fun _ h9 => h9) rfl dX9_boat_68 ?_
                    refine lv_bipush (v := 8) hx hb dX9_boat_71 (by decide) ?_
                    refine lv_iload hx hb dX9_boat_73 (lv_at hl 6 rfl) ?_
                    refine lv_iadd hx hb dX9_boat_75 ?_
                    obtain ⟨hg, hf⟩ := sm_gd_e hf
                    refine va_iald hx hb hK hP 3 0 rfl rfl (sm_in hg) dX9_boat_76 ?_
                    refine lv_iload hx hb dX9_boat_77 (lv_at hl 3 rfl) ?_
                    refine lv_iadd hx hb dX9_boat_79 ?_
                    refine lv_aload_n hx hb dX9_boat_80 rfl (lv_at hl 0 rfl) ?_
                    refine va_get (D := (g.1, g.2.1)) (ci := 9) (v := .int (S.1 0)) (C := RX9) (T := TX9) (N := 39) hx hb hts in_X9 hown hK hP 0 rfl rfl 0 (by decide) (hts _ q856) (fun _ h9 => h9) rfl dX9_boat_81 ?_
                    refine lv_icmp_lt (tgt := 91) hx hb dX9_boat_84 (by decide) (fun c_32 => ?_) (fun c_32 => ?_)
                    · have hf := (if_pos c_32).symm.trans hf
                      refine lv_iconst (v := 0) hx hb dX9_boat_91 (by decide) ?_
                      refine lv_iadd hx hb dX9_boat_92 ?_
                      refine lv_istore (lv' := [(6, .int (x_21 + 0)), (0, .ref (ad 0)), (1, .int a1), (2, .int a2), (5, .int x_7), (4, .int x_8), (3, .int x_9), (7, .int x_20)]) hx hb dX9_boat_93 hl (by decide) rfl (fun ls hl => ?_)
                      refine lv_iinc (v := x_20 + 1) (lv' := [(7, .int (x_20 + 1)), (6, .int (x_21 + 0)), (0, .ref (ad 0)), (1, .int a1), (2, .int a2), (5, .int x_7), (4, .int x_8), (3, .int x_9)]) hx hb dX9_boat_95 hl (k := 7) rfl rfl (by decide) rfl (fun ls hl => ?_)
                      refine lv_goto (tgt := 42) hx hb dX9_boat_98 (by decide) ?_
                      cases hf
                      exact ih_22 _ _ _ _ _ hc_26 (lv_sub hl [2, 3, 4, 5, 6, 7, 0, 1] rfl) kx_23
                    · have hf := (if_neg c_32).symm.trans hf
                      refine lv_iconst (v := 1) hx hb dX9_boat_87 (by decide) ?_
                      refine lv_goto (tgt := 92) hx hb dX9_boat_88 (by decide) ?_
                      refine lv_iadd hx hb dX9_boat_92 ?_
                      refine lv_istore (lv' := [(6, .int (x_21 + 1)), (0, .ref (ad 0)), (1, .int a1), (2, .int a2), (5, .int x_7), (4, .int x_8), (3, .int x_9), (7, .int x_20)]) hx hb dX9_boat_93 hl (by decide) rfl (fun ls hl => ?_)
                      refine lv_iinc (v := x_20 + 1) (lv' := [(7, .int (x_20 + 1)), (6, .int (x_21 + 1)), (0, .ref (ad 0)), (1, .int a1), (2, .int a2), (5, .int x_7), (4, .int x_8), (3, .int x_9)]) hx hb dX9_boat_95 hl (k := 7) rfl rfl (by decide) rfl (fun ls hl => ?_)
                      refine lv_goto (tgt := 42) hx hb dX9_boat_98 (by decide) ?_
                      cases hf
                      exact ih_22 _ _ _ _ _ hc_26 (lv_sub hl [2, 3, 4, 5, 6, 7, 0, 1] rfl) kx_23
            obtain ⟨x_34, x_35, ho, hf⟩ := sm_b2_e hf
            refine L_27 FU 0 0 x_34 x_35 ls ho (lv_sub hl [2, 3, 4, 5, 6, 7, 0, 1] rfl) ?_
            intro ls hl
            refine lv_aload_n hx hb dX9_boat_101 rfl (lv_at hl 0 rfl) ?_
            refine lv_aload_n hx hb dX9_boat_102 rfl (lv_at hl 0 rfl) ?_
            refine va_get (D := (g.1, g.2.1)) (ci := 9) (v := .ref (ad 7)) (C := RX9) (T := TX9) (N := 39) hx hb hts in_X9 hown hK hP 0 rfl rfl 7 (by decide) (hts _ q863) (fun _ h9 => h9) rfl dX9_boat_103 ?_
            refine lv_iconst (v := 0) hx hb dX9_boat_106 (by decide) ?_
            refine va_iald hx hb hK hP 3 0 rfl rfl (sm_in rfl) dX9_boat_107 ?_
            refine lv_iload hx hb dX9_boat_108 (lv_at hl 3 rfl) ?_
            refine lv_iadd hx hb dX9_boat_110 ?_
            obtain ⟨r_36, h_37, hf⟩ := sm_b1_e hf
            refine vp_callSi (W.runV (As := [.int ((S.2.1 7 0) + x_7)]) (rest := []) ⟨hx, hb, hml, hown, hts⟩ (wX9_sailsOn l g ad S ((S.2.1 7 0) + x_7) r_36 h_37) (cwV 1 hts (lw_V q1057 q1059 qs35 q70 q1060) rfl rfl rfl (by decide +kernel) ⟨Nat.le_of_ble_eq_true rfl, Nat.le_of_ble_eq_true rfl⟩) (sm_pv hE hP (va_recv hK hP (ci := 9) (q0 := 0) rfl rfl)) rfl rfl hl.1 rfl (lv_room (Nat.le_of_ble_eq_true rfl)) dX9_boat_111 ⟨Nat.le_of_ble_eq_true rfl, Nat.le_of_ble_eq_true rfl⟩) (fun r_39 er_38 => ?_)
            have er_38 := er_38.symm
            subst er_38
            obtain ⟨x_40, hf, hf0⟩ := sm_b1_e hf
            suffices hj_41 : ∀ (ls : Array Slot), lv_has ls 8 [(0, .ref (ad 0)), (1, .int a1), (2, .int a2), (5, .int x_7), (4, .int x_8), (3, .int x_9), (7, .int x_34), (6, .int x_35)] → W p l e rX9_boat s m args below meth c s.heap [] 0 0 Q (F0 m 129 ls [.int x_40]) from by
              refine lv_if_eq (tgt := 128) hx hb dX9_boat_114 (by decide) (fun c_42 => ?_) (fun c_42 => ?_)
              · have hf := (if_pos c_42).symm.trans hf
                refine lv_iconst (v := 0) hx hb dX9_boat_128 (by decide) ?_
                cases hf
                exact hj_41 _ (lv_sub hl [0, 1, 2, 3, 4, 5, 6, 7] rfl)
              · have hf := (if_neg c_42).symm.trans hf
                refine lv_iload hx hb dX9_boat_117 (lv_at hl 7 rfl) ?_
                refine lv_iload hx hb dX9_boat_119 (lv_at hl 4 rfl) ?_
                refine lv_icmp_le (tgt := 128) hx hb dX9_boat_121 (by decide) (fun c_43 => ?_) (fun c_43 => ?_)
                · have hf := (if_pos c_43).symm.trans hf
                  refine lv_iconst (v := 0) hx hb dX9_boat_128 (by decide) ?_
                  cases hf
                  exact hj_41 _ (lv_sub hl [0, 1, 2, 3, 4, 5, 6, 7] rfl)
                · have hf := (if_neg c_43).symm.trans hf
                  refine lv_iconst (v := 1) hx hb dX9_boat_124 (by decide) ?_
                  refine lv_goto (tgt := 129) hx hb dX9_boat_125 (by decide) ?_
                  cases hf
                  exact hj_41 _ (lv_sub hl [0, 1, 2, 3, 4, 5, 6, 7] rfl)
            intro ls hl
            have hf := hf0
            refine lv_istore (lv' := [(7, .int x_40), (0, .ref (ad 0)), (1, .int a1), (2, .int a2), (5, .int x_7), (4, .int x_8), (3, .int x_9), (6, .int x_35)]) hx hb dX9_boat_129 hl (by decide) rfl (fun ls hl => ?_)
            refine lv_iload hx hb dX9_boat_131 (lv_at hl 0 rfl) ?_
            obtain ⟨x_44, hf, hf0⟩ := sm_b1_e hf
            suffices hj_45 : ∀ (ls : Array Slot), lv_has ls 8 [(7, .int x_40), (0, .ref (ad 0)), (1, .int a1), (2, .int a2), (5, .int x_7), (4, .int x_8), (3, .int x_9), (6, .int x_35)] → W p l e rX9_boat s m args below meth c s.heap [] 0 0 Q (F0 m 149 ls [.int x_44]) from by
              refine lv_if_eq (tgt := 148) hx hb dX9_boat_133 (by decide) (fun c_46 => ?_) (fun c_46 => ?_)
              · have hf := (if_pos c_46).symm.trans hf
                refine lv_iload_n hx hb dX9_boat_148 rfl (lv_at hl 6 rfl) ?_
                cases hf
                exact hj_45 _ (lv_sub hl [0, 1, 2, 3, 4, 5, 6, 7] rfl)
              · have hf := (if_neg c_46).symm.trans hf
                refine lv_aload_n hx hb dX9_boat_136 rfl (lv_at hl 1 rfl) ?_
                refine va_get (D := (g.1, g.2.1)) (ci := 9) (v := .ref (ad 7)) (C := RX9) (T := TX9) (N := 39) hx hb hts in_X9 hown hK hP 0 rfl rfl 7 (by decide) (hts _ q863) (fun _ h9 => h9) rfl dX9_boat_137 ?_
                refine lv_iconst (v := 0) hx hb dX9_boat_140 (by decide) ?_
                refine va_iald hx hb hK hP 3 0 rfl rfl (sm_in rfl) dX9_boat_141 ?_
                refine lv_iload hx hb dX9_boat_142 (lv_at hl 4 rfl) ?_
                refine lv_iadd hx hb dX9_boat_144 ?_
                refine lv_goto (tgt := 149) hx hb dX9_boat_145 (by decide) ?_
                cases hf
                exact hj_45 _ (lv_sub hl [0, 1, 2, 3, 4, 5, 6, 7] rfl)
            intro ls hl
            have hf := hf0
            refine lv_istore_n (lv' := [(3, .int x_44), (7, .int x_40), (0, .ref (ad 0)), (1, .int a1), (2, .int a2), (5, .int x_7), (4, .int x_8), (6, .int x_35)]) hx hb dX9_boat_149 rfl hl (by decide) rfl (fun ls hl => ?_)
            refine lv_iload hx hb dX9_boat_150 (lv_at hl 1 rfl) ?_
            refine lv_if_eq (tgt := 160) hx hb dX9_boat_152 (by decide) (fun c_47 => ?_) (fun c_47 => ?_)
            · have hf := (if_pos c_47).symm.trans hf
              refine lv_iload hx hb dX9_boat_160 (lv_at hl 6 rfl) ?_
              refine lv_istore (lv' := [(4, .int x_8), (3, .int x_44), (7, .int x_40), (0, .ref (ad 0)), (1, .int a1), (2, .int a2), (5, .int x_7), (6, .int x_35)]) hx hb dX9_boat_162 hl (by decide) rfl (fun ls hl => ?_)
              refine lv_iinc (v := x_7 + 1) (lv' := [(5, .int (x_7 + 1)), (4, .int x_8), (3, .int x_44), (7, .int x_40), (0, .ref (ad 0)), (1, .int a1), (2, .int a2), (6, .int x_35)]) hx hb dX9_boat_164 hl (k := 6) rfl rfl (by decide) rfl (fun ls hl => ?_)
              refine lv_goto (tgt := 30) hx hb dX9_boat_167 (by decide) ?_
              cases hf
              exact ih_10 _ _ _ _ _ _ _ hc_14 (lv_sub hl [4, 5, 6, 0, 1, 2] rfl) kx_11
            · have hf := (if_neg c_47).symm.trans hf
              refine lv_iload hx hb dX9_boat_155 (lv_at hl 7 rfl) ?_
              refine lv_goto (tgt := 162) hx hb dX9_boat_157 (by decide) ?_
              refine lv_istore (lv' := [(4, .int x_35), (3, .int x_44), (7, .int x_40), (0, .ref (ad 0)), (1, .int a1), (2, .int a2), (5, .int x_7), (6, .int x_35)]) hx hb dX9_boat_162 hl (by decide) rfl (fun ls hl => ?_)
              refine lv_iinc (v := x_7 + 1) (lv' := [(5, .int (x_7 + 1)), (4, .int x_35), (3, .int x_44), (7, .int x_40), (0, .ref (ad 0)), (1, .int a1), (2, .int a2), (6, .int x_35)]) hx hb dX9_boat_164 hl (k := 6) rfl rfl (by decide) rfl (fun ls hl => ?_)
              refine lv_goto (tgt := 30) hx hb dX9_boat_167 (by decide) ?_
              cases hf
              exact ih_10 _ _ _ _ _ _ _ hc_14 (lv_sub hl [4, 5, 6, 0, 1, 2] rfl) kx_11
      obtain ⟨x_49, x_50, x_51, ho, hf⟩ := sm_b3_e hf
      refine L_15 FU 0 0 (-9) x_49 x_50 x_51 ls ho (lv_sub hl [3, 4, 5, 0, 1, 2] rfl) ?_
      intro ls hl
      refine lv_iload_n hx hb dX9_boat_170 rfl (lv_at hl 5 rfl) ?_
      refine lv_bipush (v := (-9)) hx hb dX9_boat_171 (by decide) ?_
      refine lv_icmp_ne (tgt := 181) hx hb dX9_boat_173 (by decide) (fun c_52 => ?_) (fun c_52 => ?_)
      · have hf := (if_neg c_52).symm.trans hf
        refine lv_iload_n hx hb dX9_boat_181 rfl (lv_at hl 2 rfl) ?_
        refine lv_if_ne (tgt := 189) hx hb dX9_boat_182 (by decide) (fun c_53 => ?_) (fun c_53 => ?_)
        · have hf := (if_neg c_53).symm.trans hf
          refine lv_iload hx hb dX9_boat_189 (lv_at hl 4 rfl) ?_
          have hf := Option.some.inj hf
          rw [← hQ]
          exact W.iret (v := x_50) hx hb hr (fun t ht hW => ⟨_, rfl, hf, ht⟩) (fun _ h => by cases h) dX9_boat_191
        · have hf := (if_pos c_53).symm.trans hf
          refine lv_iload_n hx hb dX9_boat_185 rfl (lv_at hl 5 rfl) ?_
          refine lv_goto (tgt := 191) hx hb dX9_boat_186 (by decide) ?_
          have hf := Option.some.inj hf
          rw [← hQ]
          exact W.iret (v := x_51) hx hb hr (fun t ht hW => ⟨_, rfl, hf, ht⟩) (fun _ h => by cases h) dX9_boat_191
      · have hf := (if_pos c_52).symm.trans hf
        refine lv_bipush (v := (-9)) hx hb dX9_boat_176 (by decide) ?_
        refine lv_goto (tgt := 191) hx hb dX9_boat_178 (by decide) ?_
        have hf := Option.some.inj hf
        rw [← hQ]
        exact W.iret (v := (-9)) hx hb hr (fun t ht hW => ⟨_, rfl, hf, ht⟩) (fun _ h => by cases h) dX9_boat_191
    · have hf := (if_pos c_6).symm.trans hf
      refine lv_iconst (v := (-1)) hx hb dX9_boat_19 (by decide) ?_
      have hf := Option.some.inj hf
      rw [← hQ]
      exact W.iret (v := (-1)) hx hb hr (fun t ht hW => ⟨_, rfl, hf, ht⟩) (fun _ h => by cases h) dX9_boat_20
abbrev rX9_now : Room := { frames := 2, cells := 0, slots := 0, locals := 43 }
set_option maxHeartbeats 4000000 in
theorem wX9_now (l : Launch) (g : GG) (ad : Nat → Nat) (S : MS) (a1 : Int32) (rf : Int32) (hf : fX9_now S a1 = some rf) : Met l yX9_now (ws_ yX9_now cX9_now 2 (some .int)) rX9_now (va_Pc [.ref (ad 0), .int a1] (fun U => PP g (WM g ad S) U.heap ∧ EV g U)) (vp_Si (fun y => y = rf)) 0 0 (fun _ => False) := by
  refine sm_st (by decide) ?_
  intro p e s m args below meth c hx hb hr hlocks hml hown hnm hts hv
  obtain ⟨hargs, hP, hE⟩ := hv
  obtain ⟨hK, hN⟩ := id hE
  have hown : s.vm.findClass RX9 = some m.cls := hown
  refine sm_en _ (Nat.le_of_ble_eq_true rfl) hargs (fun ls hl => ?_)
  have hl : lv_has ls 2 [(0, .ref (ad 0)), (1, .int a1)] := hl
  generalize hQ : MQ below _ args s _ _ _ = Q
  unfold fX9_now at hf
  refine lv_iload_n hx hb dX9_now_0 rfl (lv_at hl 1 rfl) ?_
  by_cases c_1_0 : a1 = 0
  · have hf := (if_pos c_1_0).symm.trans hf
    refine lv_tableIn (tgt := 40) hx hb dX9_now_1 (by rw [c_1_0]; decide) (by rw [c_1_0]; decide) (by rw [c_1_0]; rfl) (by decide) ?_
    refine lv_aload_n hx hb dX9_now_40 rfl (lv_at hl 0 rfl) ?_
    refine va_get (D := (g.1, g.2.1)) (ci := 9) (v := .ref (ad 7)) (C := RX9) (T := TX9) (N := 39) hx hb hts in_X9 hown hK hP 0 rfl rfl 7 (by decide) (hts _ q863) (fun _ h9 => h9) rfl dX9_now_41 ?_
    refine lv_iconst (v := 0) hx hb dX9_now_44 (by decide) ?_
    refine va_iald hx hb hK hP 3 0 rfl rfl (sm_in rfl) dX9_now_45 ?_
    have hf := Option.some.inj hf
    rw [← hQ]
    exact W.iret (v := S.2.1 7 0) hx hb hr (fun t ht hW => ⟨_, rfl, hf, ht⟩) (fun _ h => by cases h) dX9_now_46
  have hf := (if_neg c_1_0).symm.trans hf
  by_cases c_1_1 : a1 = 1
  · have hf := (if_pos c_1_1).symm.trans hf
    refine lv_tableIn (tgt := 47) hx hb dX9_now_1 (by rw [c_1_1]; decide) (by rw [c_1_1]; decide) (by rw [c_1_1]; rfl) (by decide) ?_
    refine lv_aload_n hx hb dX9_now_47 rfl (lv_at hl 0 rfl) ?_
    refine va_get (D := (g.1, g.2.1)) (ci := 9) (v := .ref (ad 7)) (C := RX9) (T := TX9) (N := 39) hx hb hts in_X9 hown hK hP 0 rfl rfl 7 (by decide) (hts _ q863) (fun _ h9 => h9) rfl dX9_now_48 ?_
    refine lv_iconst (v := 1) hx hb dX9_now_51 (by decide) ?_
    refine va_iald hx hb hK hP 3 0 rfl rfl (sm_in rfl) dX9_now_52 ?_
    have hf := Option.some.inj hf
    rw [← hQ]
    exact W.iret (v := S.2.1 7 1) hx hb hr (fun t ht hW => ⟨_, rfl, hf, ht⟩) (fun _ h => by cases h) dX9_now_53
  have hf := (if_neg c_1_1).symm.trans hf
  by_cases c_1_2 : a1 = 2
  · have hf := (if_pos c_1_2).symm.trans hf
    refine lv_tableIn (tgt := 54) hx hb dX9_now_1 (by rw [c_1_2]; decide) (by rw [c_1_2]; decide) (by rw [c_1_2]; rfl) (by decide) ?_
    refine lv_aload_n hx hb dX9_now_54 rfl (lv_at hl 0 rfl) ?_
    obtain ⟨r_2, h_3, hf⟩ := sm_b1_e hf
    refine vp_callSi (W.runV (As := []) (rest := []) ⟨hx, hb, hml, hown, hts⟩ (wX9_leavers l g ad S  r_2 h_3) (cwV 0 hts (lw_V q1045 q1047 qs32 q70 q1048) rfl rfl rfl (by decide +kernel) ⟨Nat.le_of_ble_eq_true rfl, Nat.le_of_ble_eq_true rfl⟩) (sm_pv hE hP (va_recv hK hP (ci := 9) (q0 := 0) rfl rfl)) rfl rfl hl.1 rfl (lv_room (Nat.le_of_ble_eq_true rfl)) dX9_now_55 ⟨Nat.le_of_ble_eq_true rfl, Nat.le_of_ble_eq_true rfl⟩) (fun r_5 er_4 => ?_)
    have er_4 := er_4.symm
    subst er_4
    have hf := Option.some.inj hf
    rw [← hQ]
    exact W.iret (v := r_2) hx hb hr (fun t ht hW => ⟨_, rfl, hf, ht⟩) (fun _ h => by cases h) dX9_now_58
  have hf := (if_neg c_1_2).symm.trans hf
  by_cases c_1_3 : a1 = 3
  · have hf := (if_pos c_1_3).symm.trans hf
    refine lv_tableIn (tgt := 59) hx hb dX9_now_1 (by rw [c_1_3]; decide) (by rw [c_1_3]; decide) (by rw [c_1_3]; rfl) (by decide) ?_
    refine lv_aload_n hx hb dX9_now_59 rfl (lv_at hl 0 rfl) ?_
    obtain ⟨r_6, h_7, hf⟩ := sm_b1_e hf
    refine vp_callSi (W.runV (As := []) (rest := []) ⟨hx, hb, hml, hown, hts⟩ (wX9_goneSet l g ad S  r_6 h_7) (cwV 0 hts (lw_V q1053 q1055 qs34 q70 q1056) rfl rfl rfl (by decide +kernel) ⟨Nat.le_of_ble_eq_true rfl, Nat.le_of_ble_eq_true rfl⟩) (sm_pv hE hP (va_recv hK hP (ci := 9) (q0 := 0) rfl rfl)) rfl rfl hl.1 rfl (lv_room (Nat.le_of_ble_eq_true rfl)) dX9_now_60 ⟨Nat.le_of_ble_eq_true rfl, Nat.le_of_ble_eq_true rfl⟩) (fun r_9 er_8 => ?_)
    have er_8 := er_8.symm
    subst er_8
    have hf := Option.some.inj hf
    rw [← hQ]
    exact W.iret (v := r_6) hx hb hr (fun t ht hW => ⟨_, rfl, hf, ht⟩) (fun _ h => by cases h) dX9_now_63
  have hf := (if_neg c_1_3).symm.trans hf
  by_cases c_1_4 : a1 = 4
  · have hf := (if_pos c_1_4).symm.trans hf
    refine lv_tableIn (tgt := 64) hx hb dX9_now_1 (by rw [c_1_4]; decide) (by rw [c_1_4]; decide) (by rw [c_1_4]; rfl) (by decide) ?_
    refine lv_aload_n hx hb dX9_now_64 rfl (lv_at hl 0 rfl) ?_
    refine lv_aload_n hx hb dX9_now_65 rfl (lv_at hl 0 rfl) ?_
    refine va_get (D := (g.1, g.2.1)) (ci := 9) (v := .ref (ad 7)) (C := RX9) (T := TX9) (N := 39) hx hb hts in_X9 hown hK hP 0 rfl rfl 7 (by decide) (hts _ q863) (fun _ h9 => h9) rfl dX9_now_66 ?_
    refine lv_iconst (v := 0) hx hb dX9_now_69 (by decide) ?_
    refine va_iald hx hb hK hP 3 0 rfl rfl (sm_in rfl) dX9_now_70 ?_
    obtain ⟨r_10, h_11, hf⟩ := sm_b1_e hf
    refine vp_callSi (W.runV (As := [.int (S.2.1 7 0)]) (rest := []) ⟨hx, hb, hml, hown, hts⟩ (wX9_sailsOn l g ad S (S.2.1 7 0) r_10 h_11) (cwV 1 hts (lw_V q1057 q1059 qs35 q70 q1060) rfl rfl rfl (by decide +kernel) ⟨Nat.le_of_ble_eq_true rfl, Nat.le_of_ble_eq_true rfl⟩) (sm_pv hE hP (va_recv hK hP (ci := 9) (q0 := 0) rfl rfl)) rfl rfl hl.1 rfl (lv_room (Nat.le_of_ble_eq_true rfl)) dX9_now_71 ⟨Nat.le_of_ble_eq_true rfl, Nat.le_of_ble_eq_true rfl⟩) (fun r_13 er_12 => ?_)
    have er_12 := er_12.symm
    subst er_12
    refine lv_if_eq (tgt := 81) hx hb dX9_now_74 (by decide) (fun c_14 => ?_) (fun c_14 => ?_)
    · have hf := (if_pos c_14).symm.trans hf
      refine lv_iconst (v := 0) hx hb dX9_now_81 (by decide) ?_
      have hf := Option.some.inj hf
      rw [← hQ]
      exact W.iret (v := 0) hx hb hr (fun t ht hW => ⟨_, rfl, hf, ht⟩) (fun _ h => by cases h) dX9_now_82
    · have hf := (if_neg c_14).symm.trans hf
      refine lv_iconst (v := 1) hx hb dX9_now_77 (by decide) ?_
      refine lv_goto (tgt := 82) hx hb dX9_now_78 (by decide) ?_
      have hf := Option.some.inj hf
      rw [← hQ]
      exact W.iret (v := 1) hx hb hr (fun t ht hW => ⟨_, rfl, hf, ht⟩) (fun _ h => by cases h) dX9_now_82
  have hf := (if_neg c_1_4).symm.trans hf
  by_cases c_1_5 : a1 = 5
  · have hf := (if_pos c_1_5).symm.trans hf
    refine lv_tableIn (tgt := 83) hx hb dX9_now_1 (by rw [c_1_5]; decide) (by rw [c_1_5]; decide) (by rw [c_1_5]; rfl) (by decide) ?_
    refine lv_aload_n hx hb dX9_now_83 rfl (lv_at hl 0 rfl) ?_
    refine va_get (D := (g.1, g.2.1)) (ci := 9) (v := .int (S.1 9)) (C := RX9) (T := TX9) (N := 39) hx hb hts in_X9 hown hK hP 0 rfl rfl 9 (by decide) (hts _ q865) (fun _ h9 => h9) rfl dX9_now_84 ?_
    have hf := Option.some.inj hf
    rw [← hQ]
    exact W.iret (v := S.1 9) hx hb hr (fun t ht hW => ⟨_, rfl, hf, ht⟩) (fun _ h => by cases h) dX9_now_87
  have hf := (if_neg c_1_5).symm.trans hf
  refine lv_tableOut (tgt := 88) hx hb dX9_now_1 (sm_out6 c_1_0 c_1_1 c_1_2 c_1_3 c_1_4 c_1_5) (by decide) ?_
  refine lv_iconst (v := (-1)) hx hb dX9_now_88 (by decide) ?_
  have hf := Option.some.inj hf
  rw [← hQ]
  exact W.iret (v := (-1)) hx hb hr (fun t ht hW => ⟨_, rfl, hf, ht⟩) (fun _ h => by cases h) dX9_now_89
abbrev rX9_sails : Room := { frames := 2, cells := 0, slots := 0, locals := 43 }
set_option maxHeartbeats 4000000 in
theorem wX9_sails (l : Launch) (g : GG) (ad : Nat → Nat) (S : MS) (a1 : Int32) (Sf : MS) (rf : Int32) (hf : fX9_sails S a1 = some (Sf, rf)) : Met l yX9_sails (ws_ yX9_sails cX9_sails 2 (some .int)) rX9_sails (va_Pc [.ref (ad 0), .int a1] (fun U => PP g (WM g ad S) U.heap ∧ EV g U ∧ va_D (AM ad) (WM g ad S))) (va_Qi (fun y (_ : Unit) => y = rf) (fun _ t => PP g (WM g ad Sf) t.heap ∧ va_D (AM ad) (WM g ad Sf)) (AM ad)) 0 0 (AM ad) := by
  refine sm_st (by decide) ?_
  intro p e s m args below meth c hx hb hr hlocks hml hown hnm hts hv
  obtain ⟨hargs, hP, hE, hD⟩ := hv
  obtain ⟨hK, hN⟩ := id hE
  have hS : va_S (AM ad) s.heap s.heap [] := va_S.rf
  have hown : s.vm.findClass RX9 = some m.cls := hown
  refine sm_en _ (Nat.le_of_ble_eq_true rfl) hargs (fun ls hl => ?_)
  have hl : lv_has ls 2 [(0, .ref (ad 0)), (1, .int a1)] := hl
  generalize hQ : MQ below _ args s _ _ _ = Q
  unfold fX9_sails at hf
  refine lv_aload_n hx hb dX9_sails_0 rfl (lv_at hl 0 rfl) ?_
  refine lv_iload_n hx hb dX9_sails_1 rfl (lv_at hl 1 rfl) ?_
  refine vp_callSi (W.runV (As := [.int a1]) (rest := []) ⟨hx, hb, hml, hown, hts⟩ (wX9_isTraveller l g ad S a1 (fX9_isTraveller S a1) rfl) (cwV 1 hts (lw_V q1029 q1031 qs30 q70 q1032) rfl rfl rfl (by decide +kernel) ⟨Nat.le_of_ble_eq_true rfl, Nat.le_of_ble_eq_true rfl⟩) (sm_pv hE hP (va_recv hK hP (ci := 9) (q0 := 0) rfl rfl)) rfl rfl hl.1 rfl (lv_room (Nat.le_of_ble_eq_true rfl)) dX9_sails_2 ⟨Nat.le_of_ble_eq_true rfl, Nat.le_of_ble_eq_true rfl⟩) (fun r_2 er_1 => ?_)
  have er_1 := er_1.symm
  subst er_1
  refine lv_if_ne (tgt := 10) hx hb dX9_sails_5 (by decide) (fun c_3 => ?_) (fun c_3 => ?_)
  · have hf := (if_neg c_3).symm.trans hf
    refine lv_aload_n hx hb dX9_sails_10 rfl (lv_at hl 0 rfl) ?_
    refine lv_iload_n hx hb dX9_sails_11 rfl (lv_at hl 1 rfl) ?_
    obtain ⟨r_4, h_5, hf⟩ := sm_b1_e hf
    refine vp_callSi (W.runV (As := [.int a1]) (rest := []) ⟨hx, hb, hml, hown, hts⟩ (wX9_mayLeave l g ad S a1 r_4 h_5) (cwV 1 hts (lw_V q1049 q1051 qs33 q70 q1052) rfl rfl rfl (by decide +kernel) ⟨Nat.le_of_ble_eq_true rfl, Nat.le_of_ble_eq_true rfl⟩) (sm_pv hE hP (va_recv hK hP (ci := 9) (q0 := 0) rfl rfl)) rfl rfl hl.1 rfl (lv_room (Nat.le_of_ble_eq_true rfl)) dX9_sails_12 ⟨Nat.le_of_ble_eq_true rfl, Nat.le_of_ble_eq_true rfl⟩) (fun r_7 er_6 => ?_)
    have er_6 := er_6.symm
    subst er_6
    refine lv_if_eq (tgt := 31) hx hb dX9_sails_15 (by decide) (fun c_8 => ?_) (fun c_8 => ?_)
    · have hf := (if_pos c_8).symm.trans hf
      refine lv_bipush (v := (-2)) hx hb dX9_sails_31 (by decide) ?_
      have hf := Option.some.inj hf
      rw [← hQ]
      have hf := Prod.mk.inj hf
      exact W.iret (v := (-2)) hx hb hr (fun t ht hW => ⟨⟨_, (), rfl, hf.2, by rw [ht, ← hf.1]; exact hP, by rw [← hf.1]; exact hD⟩, hS.F ht⟩) hS.2.2 dX9_sails_33
    · have hf := (if_neg c_8).symm.trans hf
      refine lv_aload_n hx hb dX9_sails_18 rfl (lv_at hl 0 rfl) ?_
      refine lv_aload_n hx hb dX9_sails_19 rfl (lv_at hl 0 rfl) ?_
      refine va_get (D := (g.1, g.2.1)) (ci := 9) (v := .ref (ad 7)) (C := RX9) (T := TX9) (N := 39) hx hb hts in_X9 hown hK hP 0 rfl rfl 7 (by decide) (hts _ q863) (fun _ h9 => h9) rfl dX9_sails_20 ?_
      refine lv_iconst (v := 0) hx hb dX9_sails_23 (by decide) ?_
      refine va_iald hx hb hK hP 3 0 rfl rfl (sm_in rfl) dX9_sails_24 ?_
      obtain ⟨r_9, h_10, hf⟩ := sm_b1_e hf
      refine vp_callSi (W.runV (As := [.int (S.2.1 7 0)]) (rest := []) ⟨hx, hb, hml, hown, hts⟩ (wX9_sailsOn l g ad S (S.2.1 7 0) r_9 h_10) (cwV 1 hts (lw_V q1057 q1059 qs35 q70 q1060) rfl rfl rfl (by decide +kernel) ⟨Nat.le_of_ble_eq_true rfl, Nat.le_of_ble_eq_true rfl⟩) (sm_pv hE hP (va_recv hK hP (ci := 9) (q0 := 0) rfl rfl)) rfl rfl hl.1 rfl (lv_room (Nat.le_of_ble_eq_true rfl)) dX9_sails_25 ⟨Nat.le_of_ble_eq_true rfl, Nat.le_of_ble_eq_true rfl⟩) (fun r_12 er_11 => ?_)
      have er_11 := er_11.symm
      subst er_11
      refine lv_if_ne (tgt := 34) hx hb dX9_sails_28 (by decide) (fun c_13 => ?_) (fun c_13 => ?_)
      · have hf := (if_neg c_13).symm.trans hf
        refine lv_aload_n hx hb dX9_sails_34 rfl (lv_at hl 0 rfl) ?_
        obtain ⟨S_14, h_15, hf⟩ := sm_b1_e hf
        refine va_callv (va_runV (As := []) (rest := []) ⟨hx, hb, hml, hown, hts⟩ (wX9_remembers l g ad S  S_14 h_15) (cwV 0 hts (lw_V q1069 q1071 qs37 q70 q1072) rfl rfl rfl (by decide +kernel) ⟨Nat.le_of_ble_eq_true rfl, Nat.le_of_ble_eq_true rfl⟩) (sm_pe hE hP hD (va_recv hK hP (ci := 9) (q0 := 0) rfl rfl)) rfl rfl hl.1 rfl (lv_room (Nat.le_of_ble_eq_true rfl)) dX9_sails_35 ⟨Nat.le_of_ble_eq_true rfl, Nat.le_of_ble_eq_true rfl⟩) hS (fun _ _ h => h) (fun _ h => h) (fun u t H locs ht hvm er_16 hB hz hk hS => ?_)
        obtain ⟨hP, hD⟩ := hB
        rw [ht] at hP
        refine lv_aload_n hx hb dX9_sails_38 rfl (lv_at hl 0 rfl) ?_
        refine va_get (D := (g.1, g.2.1)) (ci := 9) (v := .ref (ad 7)) (C := RX9) (T := TX9) (N := 39) hx hb hts in_X9 hown hK hP 0 rfl rfl 7 (by decide) (hts _ q863) (fun _ h9 => h9) rfl dX9_sails_39 ?_
        refine lv_iconst (v := 2) hx hb dX9_sails_42 (by decide) ?_
        refine lv_iload_n hx hb dX9_sails_43 rfl (lv_at hl 1 rfl) ?_
        refine lv_iadd hx hb dX9_sails_44 ?_
        refine lv_bipush (v := (-9)) hx hb dX9_sails_45 (by decide) ?_
        obtain ⟨hg, hf⟩ := sm_gd_e hf
        refine va_iast (i := 2 + a1) (x := (-9)) hx hb hK hP hD hS 3 0 rfl rfl (sm_in hg) dX9_sails_47 (fun H locs hP hD hS => ?_)
        obtain ⟨S_18, eS_18, hf⟩ := sm_lt_e hf
        have hP : PP g (WM g ad S_18) H := by rw [eS_18]; exact pmr7 hP
        have hD : va_D (AM ad) (WM g ad S_18) := by rw [eS_18]; exact dmr7 hD
        refine lv_aload_n hx hb dX9_sails_48 rfl (lv_at hl 0 rfl) ?_
        refine va_get (D := (g.1, g.2.1)) (ci := 9) (v := .ref (ad 7)) (C := RX9) (T := TX9) (N := 39) hx hb hts in_X9 hown hK hP 0 rfl rfl 7 (by decide) (hts _ q863) (fun _ h9 => h9) rfl dX9_sails_49 ?_
        refine lv_bipush (v := 8) hx hb dX9_sails_52 (by decide) ?_
        refine lv_iload_n hx hb dX9_sails_54 rfl (lv_at hl 1 rfl) ?_
        refine lv_iadd hx hb dX9_sails_55 ?_
        refine lv_iconst (v := 0) hx hb dX9_sails_56 (by decide) ?_
        obtain ⟨hg, hf⟩ := sm_gd_e hf
        refine va_iast (i := 8 + a1) (x := 0) hx hb hK hP hD hS 3 0 rfl rfl (sm_in hg) dX9_sails_57 (fun H locs hP hD hS => ?_)
        obtain ⟨S_19, eS_19, hf⟩ := sm_lt_e hf
        have hP : PP g (WM g ad S_19) H := by rw [eS_19]; exact pmr7 hP
        have hD : va_D (AM ad) (WM g ad S_19) := by rw [eS_19]; exact dmr7 hD
        refine lv_aload_n hx hb dX9_sails_58 rfl (lv_at hl 0 rfl) ?_
        refine va_get (D := (g.1, g.2.1)) (ci := 9) (v := .ref (ad 7)) (C := RX9) (T := TX9) (N := 39) hx hb hts in_X9 hown hK hP 0 rfl rfl 7 (by decide) (hts _ q863) (fun _ h9 => h9) rfl dX9_sails_59 ?_
        refine lv_bipush (v := 14) hx hb dX9_sails_62 (by decide) ?_
        refine lv_iload_n hx hb dX9_sails_64 rfl (lv_at hl 1 rfl) ?_
        refine lv_iadd hx hb dX9_sails_65 ?_
        refine lv_iconst (v := 1) hx hb dX9_sails_66 (by decide) ?_
        obtain ⟨hg, hf⟩ := sm_gd_e hf
        refine va_iast (i := 14 + a1) (x := 1) hx hb hK hP hD hS 3 0 rfl rfl (sm_in hg) dX9_sails_67 (fun H locs hP hD hS => ?_)
        obtain ⟨S_20, eS_20, hf⟩ := sm_lt_e hf
        have hP : PP g (WM g ad S_20) H := by rw [eS_20]; exact pmr7 hP
        have hD : va_D (AM ad) (WM g ad S_20) := by rw [eS_20]; exact dmr7 hD
        refine lv_aload_n hx hb dX9_sails_68 rfl (lv_at hl 0 rfl) ?_
        obtain ⟨r_21, h_22, hf⟩ := sm_b1_e hf
        refine vp_callSi (W.runV (As := []) (rest := []) ⟨hx, hb, hml, hown, hts⟩ (wX9_goneSet l g ad S_20  r_21 h_22) (cwV 0 hts (lw_V q1053 q1055 qs34 q70 q1056) rfl rfl rfl (by decide +kernel) ⟨Nat.le_of_ble_eq_true rfl, Nat.le_of_ble_eq_true rfl⟩) (sm_pv hE hP (va_recv hK hP (ci := 9) (q0 := 0) rfl rfl)) rfl rfl hl.1 rfl (lv_room (Nat.le_of_ble_eq_true rfl)) dX9_sails_69 ⟨Nat.le_of_ble_eq_true rfl, Nat.le_of_ble_eq_true rfl⟩) (fun r_24 er_23 => ?_)
        have er_23 := er_23.symm
        subst er_23
        obtain ⟨r_25, h_26, hf⟩ := sm_b1_e hf
        refine vp_callSi (W.runS (As := [.int r_21]) (rest := []) ⟨hx, hb, hml, hown, hts⟩ (wX9_bits l r_21 r_25 h_26) (va_cwS 1 hts (lw_S q1085 q1086 q70 q1087) rfl rfl rfl (by decide +kernel) ⟨Nat.le_of_ble_eq_true rfl, Nat.le_of_ble_eq_true rfl⟩) (sm_ps) rfl rfl hl.1 rfl (lv_room (Nat.le_of_ble_eq_true rfl)) dX9_sails_72 ⟨Nat.le_of_ble_eq_true rfl, Nat.le_of_ble_eq_true rfl⟩) (fun r_28 er_27 => ?_)
        have er_27 := er_27.symm
        subst er_27
        have hf := Option.some.inj hf
        rw [← hQ]
        have hf := Prod.mk.inj hf
        exact W.iret (v := r_25) hx hb hr (fun t ht hW => ⟨⟨_, (), rfl, hf.2, by rw [ht, ← hf.1]; exact hP, by rw [← hf.1]; exact hD⟩, hS.F ht⟩) hS.2.2 dX9_sails_75
      · have hf := (if_pos c_13).symm.trans hf
        refine lv_bipush (v := (-2)) hx hb dX9_sails_31 (by decide) ?_
        have hf := Option.some.inj hf
        rw [← hQ]
        have hf := Prod.mk.inj hf
        exact W.iret (v := (-2)) hx hb hr (fun t ht hW => ⟨⟨_, (), rfl, hf.2, by rw [ht, ← hf.1]; exact hP, by rw [← hf.1]; exact hD⟩, hS.F ht⟩) hS.2.2 dX9_sails_33
  · have hf := (if_pos c_3).symm.trans hf
    refine lv_iconst (v := (-1)) hx hb dX9_sails_8 (by decide) ?_
    have hf := Option.some.inj hf
    rw [← hQ]
    have hf := Prod.mk.inj hf
    exact W.iret (v := (-1)) hx hb hr (fun t ht hW => ⟨⟨_, (), rfl, hf.2, by rw [ht, ← hf.1]; exact hP, by rw [← hf.1]; exact hD⟩, hS.F ht⟩) hS.2.2 dX9_sails_9
