/-! SmokedLettersModel, walked: printed by gen/model.py -/
set_option maxRecDepth 100000
abbrev rX9_begins : Room := { frames := 0, cells := 0, slots := 0, locals := 0 }
set_option maxHeartbeats 4000000 in
theorem wX9_begins (l : Launch) (g : GG) (ad : Nat → Nat) (S : MS) (Sf : MS) (hf : fX9_begins S = some Sf) : Met l yX9_begins (ws_ yX9_begins cX9_begins 2 none) rX9_begins (va_Pc [.ref (ad 0)] (fun U => PP g (WM g ad S) U.heap ∧ EV g U ∧ va_D (AM ad) (WM g ad S))) (va_Qv (fun (_ : Unit) => True) (fun _ t => PP g (WM g ad Sf) t.heap ∧ va_D (AM ad) (WM g ad Sf)) (AM ad)) 0 0 (AM ad) := by
  refine sm_st (by decide) ?_
  intro p e s m args below meth c hx hb hr hlocks hml hown hnm hts hv
  obtain ⟨hargs, hP, hE, hD⟩ := hv
  obtain ⟨hK, hN⟩ := id hE
  have hS : va_S (AM ad) s.heap s.heap [] := va_S.rf
  have hown : s.vm.findClass RX9 = some m.cls := hown
  refine sm_en _ (Nat.le_of_ble_eq_true rfl) hargs (fun ls hl => ?_)
  have hl : lv_has ls 2 [(0, .ref (ad 0))] := hl
  generalize hQ : MQ below _ args s _ _ _ = Q
  unfold fX9_begins at hf
  refine lv_iconst (v := 0) hx hb dX9_begins_0 (by decide) ?_
  refine lv_istore_n (lv' := [(1, .int 0), (0, .ref (ad 0))]) hx hb dX9_begins_1 rfl hl (by decide) rfl (fun ls hl => ?_)
  have L_8 : ∀ (n : Nat) (x_1 : Int32) (S_2 : MS) (o_9 : Int32) (o_10 : MS) (H : Heap) (locs : List Loc) (ls : Array Slot), sm_lp (fun q => fX9_begins_2 q.1 q.2) n (x_1, S_2) = some (o_9, o_10) → PP g (WM g ad S_2) H → va_D (AM ad) (WM g ad S_2) → va_S (AM ad) s.heap H locs → lv_has ls 2 [(0, .ref (ad 0)), (1, .int x_1)] → (∀ (H : Heap) (locs : List Loc) (ls : Array Slot), PP g (WM g ad o_10) H → va_D (AM ad) (WM g ad o_10) → va_S (AM ad) s.heap H locs → lv_has ls 2 [(0, .ref (ad 0)), (1, .int o_9)] → W p l e rX9_begins s m args below meth c H locs 0 0 Q (F0 m 25 ls [])) → W p l e rX9_begins s m args below meth c H locs 0 0 Q (F0 m 2 ls []) := by
    intro n
    induction n with
    | zero =>
      intro _ _ _ _ _ _ _ hf
      cases hf
    | succ n ih_3 =>
      intro x_1 S_2 o_9 o_10 H locs ls hf hP hD hS hl kx_4
      obtain ⟨q, hf, hc_7⟩ := sm_bnd hf
      have hf : fX9_begins_2 x_1 S_2 = some q := hf
      unfold fX9_begins_2 at hf
      refine lv_iload_n hx hb dX9_begins_2 rfl (lv_at hl 1 rfl) ?_
      refine lv_iconst (v := 5) hx hb dX9_begins_3 (by decide) ?_
      refine lv_icmp_ge (tgt := 25) hx hb dX9_begins_4 (by decide) (fun c_11 => ?_) (fun c_11 => ?_)
      · have hf := (if_pos c_11).symm.trans hf
        cases hf
        have hc_7 : some (x_1, S_2) = some (o_9, o_10) := hc_7
        cases hc_7
        exact kx_4 _ _ _ hP hD hS (lv_sub hl [0, 1] rfl)
      · have hf := (if_neg c_11).symm.trans hf
        refine lv_aload_n hx hb dX9_begins_7 rfl (lv_at hl 0 rfl) ?_
        refine va_get (D := (g.1, g.2.1)) (ci := 9) (v := .ref (ad 36)) (C := RX9) (T := TX9) (N := 39) hx hb hts in_X9 hown hK hP 0 rfl rfl 36 (by decide) (hts _ q892) (fun _ h9 => h9) rfl dX9_begins_8 ?_
        refine lv_iload_n hx hb dX9_begins_11 rfl (lv_at hl 1 rfl) ?_
        refine lv_aload_n hx hb dX9_begins_12 rfl (lv_at hl 0 rfl) ?_
        refine va_get (D := (g.1, g.2.1)) (ci := 9) (v := .ref (ad 35)) (C := RX9) (T := TX9) (N := 39) hx hb hts in_X9 hown hK hP 0 rfl rfl 35 (by decide) (hts _ q891) (fun _ h9 => h9) rfl dX9_begins_13 ?_
        refine lv_iload_n hx hb dX9_begins_16 rfl (lv_at hl 1 rfl) ?_
        obtain ⟨hg, hf⟩ := sm_gd_e hf
        refine va_iald hx hb hK hP 18 0 rfl rfl (sm_in hg) dX9_begins_17 ?_
        obtain ⟨hg, hf⟩ := sm_gd_e hf
        refine va_iast (i := x_1) (x := S_2.2.1 35 x_1.toNatClampNeg) hx hb hK hP hD hS 19 0 rfl rfl (sm_in hg) dX9_begins_18 (fun H locs hP hD hS => ?_)
        obtain ⟨S_12, eS_12, hf⟩ := sm_lt_e hf
        have hP : PP g (WM g ad S_12) H := by rw [eS_12]; exact pmr36 hP
        have hD : va_D (AM ad) (WM g ad S_12) := by rw [eS_12]; exact dmr36 hD
        refine lv_iinc (v := x_1 + 1) (lv' := [(1, .int (x_1 + 1)), (0, .ref (ad 0))]) hx hb dX9_begins_19 hl (k := 1) rfl rfl (by decide) rfl (fun ls hl => ?_)
        refine lv_goto (tgt := 2) hx hb dX9_begins_22 (by decide) ?_
        cases hf
        exact ih_3 _ _ _ _ _ _ _ hc_7 hP hD hS (lv_sub hl [1, 0] rfl) kx_4
  obtain ⟨x_14, S_15, ho, hf⟩ := sm_b2_e hf
  refine L_8 FU 0 S x_14 S_15 s.heap [] ls ho hP hD hS (lv_sub hl [1, 0] rfl) ?_
  intro H locs ls hP hD hS hl
  have hf := Option.some.inj hf
  rw [← hQ]
  exact W.vret hx hb hr (fun t ht hW => ⟨⟨(), rfl, trivial, by rw [ht, ← hf]; exact hP, by rw [← hf]; exact hD⟩, hS.F ht⟩) hS.2.2 dX9_begins_25
abbrev rX9_bits : Room := { frames := 0, cells := 0, slots := 0, locals := 0 }
set_option maxHeartbeats 4000000 in
theorem wX9_bits (l : Launch) (a1 : Int32) (rf : Int32) (hf : fX9_bits a1 = some rf) : Met l yX9_bits (ws_ yX9_bits cX9_bits 3 (some .int)) rX9_bits (va_Pc [.int a1] (fun _ => True)) (vp_Si (fun y => y = rf)) 0 0 (fun _ => False) := by
  refine sm_st (by decide) ?_
  intro p e s m args below meth c hx hb hr hlocks hml hown hnm hts hv
  obtain ⟨hargs, -⟩ := hv
  have hown : s.vm.findClass RX9 = some m.cls := hown
  refine sm_en _ (Nat.le_of_ble_eq_true rfl) hargs (fun ls hl => ?_)
  have hl : lv_has ls 3 [(0, .int a1)] := hl
  generalize hQ : MQ below _ args s _ _ _ = Q
  unfold fX9_bits at hf
  refine lv_iconst (v := 0) hx hb dX9_bits_0 (by decide) ?_
  refine lv_istore_n (lv' := [(1, .int 0), (0, .int a1)]) hx hb dX9_bits_1 rfl hl (by decide) rfl (fun ls hl => ?_)
  refine lv_iload_n hx hb dX9_bits_2 rfl (lv_at hl 1 rfl) ?_
  refine lv_istore_n (lv' := [(2, .int a1), (1, .int 0), (0, .int a1)]) hx hb dX9_bits_3 rfl hl (by decide) rfl (fun ls hl => ?_)
  have L_8 : ∀ (n : Nat) (x_1 : Int32) (x_2 : Int32) (o_9 : Int32) (o_10 : Int32) (ls : Array Slot), sm_lp (fun q => fX9_bits_4 q.1 q.2) n (x_1, x_2) = some (o_9, o_10) → lv_has ls 3 [(0, .int a1), (2, .int x_1), (1, .int x_2)] → (∀ (ls : Array Slot), lv_has ls 3 [(0, .int a1), (2, .int o_9), (1, .int o_10)] → W p l e rX9_bits s m args below meth c s.heap [] 0 0 Q (F0 m 20 ls [])) → W p l e rX9_bits s m args below meth c s.heap [] 0 0 Q (F0 m 4 ls []) := by
    intro n
    induction n with
    | zero =>
      intro _ _ _ _ _ hf
      cases hf
    | succ n ih_3 =>
      intro x_1 x_2 o_9 o_10 ls hf hl kx_4
      obtain ⟨q, hf, hc_7⟩ := sm_bnd hf
      have hf : fX9_bits_4 x_1 x_2 = some q := hf
      unfold fX9_bits_4 at hf
      refine lv_iload_n hx hb dX9_bits_4 rfl (lv_at hl 1 rfl) ?_
      refine lv_if_le (tgt := 20) hx hb dX9_bits_5 (by decide) (fun c_11 => ?_) (fun c_11 => ?_)
      · have hf := (if_pos c_11).symm.trans hf
        cases hf
        have hc_7 : some (x_1, x_2) = some (o_9, o_10) := hc_7
        cases hc_7
        exact kx_4 _ (lv_sub hl [0, 1, 2] rfl)
      · have hf := (if_neg c_11).symm.trans hf
        refine lv_iinc (v := x_2 + 1) (lv' := [(1, .int (x_2 + 1)), (0, .int a1), (2, .int x_1)]) hx hb dX9_bits_8 hl (k := 2) rfl rfl (by decide) rfl (fun ls hl => ?_)
        refine lv_iload_n hx hb dX9_bits_11 rfl (lv_at hl 2 rfl) ?_
        refine lv_iload_n hx hb dX9_bits_12 rfl (lv_at hl 2 rfl) ?_
        refine lv_iconst (v := 1) hx hb dX9_bits_13 (by decide) ?_
        refine lv_isub hx hb dX9_bits_14 ?_
        refine lv_iand hx hb dX9_bits_15 ?_
        refine lv_istore_n (lv' := [(2, .int (x_1 &&& (x_1 - 1))), (1, .int (x_2 + 1)), (0, .int a1)]) hx hb dX9_bits_16 rfl hl (by decide) rfl (fun ls hl => ?_)
        refine lv_goto (tgt := 4) hx hb dX9_bits_17 (by decide) ?_
        cases hf
        exact ih_3 _ _ _ _ _ hc_7 (lv_sub hl [2, 0, 1] rfl) kx_4
  obtain ⟨x_13, x_14, ho, hf⟩ := sm_b2_e hf
  refine L_8 FU a1 0 x_13 x_14 ls ho (lv_sub hl [2, 0, 1] rfl) ?_
  intro ls hl
  refine lv_iload_n hx hb dX9_bits_20 rfl (lv_at hl 2 rfl) ?_
  have hf := Option.some.inj hf
  rw [← hQ]
  exact W.iret (v := x_14) hx hb hr (fun t ht hW => ⟨_, rfl, hf, ht⟩) (fun _ h => by cases h) dX9_bits_21
abbrev rX9_burn : Room := { frames := 0, cells := 0, slots := 0, locals := 0 }
set_option maxHeartbeats 4000000 in
theorem wX9_burn (l : Launch) (g : GG) (ad : Nat → Nat) (S : MS) (Sf : MS) (rf : Int32) (hf : fX9_burn S = some (Sf, rf)) : Met l yX9_burn (ws_ yX9_burn cX9_burn 2 (some .int)) rX9_burn (va_Pc [.ref (ad 0)] (fun U => PP g (WM g ad S) U.heap ∧ EV g U ∧ va_D (AM ad) (WM g ad S))) (va_Qi (fun y (_ : Unit) => y = rf) (fun _ t => PP g (WM g ad Sf) t.heap ∧ va_D (AM ad) (WM g ad Sf)) (AM ad)) 0 0 (AM ad) := by
  refine sm_st (by decide) ?_
  intro p e s m args below meth c hx hb hr hlocks hml hown hnm hts hv
  obtain ⟨hargs, hP, hE, hD⟩ := hv
  obtain ⟨hK, hN⟩ := id hE
  have hS : va_S (AM ad) s.heap s.heap [] := va_S.rf
  have hown : s.vm.findClass RX9 = some m.cls := hown
  refine sm_en _ (Nat.le_of_ble_eq_true rfl) hargs (fun ls hl => ?_)
  have hl : lv_has ls 2 [(0, .ref (ad 0))] := hl
  generalize hQ : MQ below _ args s _ _ _ = Q
  unfold fX9_burn at hf
  refine lv_aload_n hx hb dX9_burn_0 rfl (lv_at hl 0 rfl) ?_
  refine va_get (D := (g.1, g.2.1)) (ci := 9) (v := .int (S.1 12)) (C := RX9) (T := TX9) (N := 39) hx hb hts in_X9 hown hK hP 0 rfl rfl 12 (by decide) (hts _ q868) (fun _ h9 => h9) rfl dX9_burn_1 ?_
  refine lv_istore_n (lv' := [(1, .int (S.1 12)), (0, .ref (ad 0))]) hx hb dX9_burn_4 rfl hl (by decide) rfl (fun ls hl => ?_)
  refine lv_aload_n hx hb dX9_burn_5 rfl (lv_at hl 1 rfl) ?_
  refine lv_iconst (v := 0) hx hb dX9_burn_6 (by decide) ?_
  refine va_put (D := (g.1, g.2.1)) (ci := 9) (v := .int 0) (ty := .int) (C := RX9) (T := TX9) (N := 39) hx hb hts in_X9 tyX9 tyX9_ok nmX9 hown hK hP hD hS 0 rfl rfl 12 (by decide) (hts _ q868) (fun _ h9 => h9) rfl (by decide +kernel) rfl rfl (Nat.le_of_ble_eq_true rfl) dX9_burn_7 (fun H locs hP hD hS => ?_)
  obtain ⟨S_1, eS_1, hf⟩ := sm_lt_e hf
  have hP : PP g (WM g ad S_1) H := by rw [eS_1]; exact pmf12 hP
  have hD : va_D (AM ad) (WM g ad S_1) := by rw [eS_1]; exact dmf12 hD
  refine lv_iload_n hx hb dX9_burn_10 rfl (lv_at hl 0 rfl) ?_
  have hf := Option.some.inj hf
  rw [← hQ]
  have hf := Prod.mk.inj hf
  exact W.iret (v := S.1 12) hx hb hr (fun t ht hW => ⟨⟨_, (), rfl, hf.2, by rw [ht, ← hf.1]; exact hP, by rw [← hf.1]; exact hD⟩, hS.F ht⟩) hS.2.2 dX9_burn_11
abbrev rX9_clear : Room := { frames := 0, cells := 0, slots := 0, locals := 0 }
set_option maxHeartbeats 4000000 in
theorem wX9_clear (l : Launch) (g : GG) (ad : Nat → Nat) (S : MS) (Sf : MS) (rf : Int32) (hf : fX9_clear S = some (Sf, rf)) : Met l yX9_clear (ws_ yX9_clear cX9_clear 2 (some .int)) rX9_clear (va_Pc [.ref (ad 0)] (fun U => PP g (WM g ad S) U.heap ∧ EV g U ∧ va_D (AM ad) (WM g ad S))) (va_Qi (fun y (_ : Unit) => y = rf) (fun _ t => PP g (WM g ad Sf) t.heap ∧ va_D (AM ad) (WM g ad Sf)) (AM ad)) 0 0 (AM ad) := by
  refine sm_st (by decide) ?_
  intro p e s m args below meth c hx hb hr hlocks hml hown hnm hts hv
  obtain ⟨hargs, hP, hE, hD⟩ := hv
  obtain ⟨hK, hN⟩ := id hE
  have hS : va_S (AM ad) s.heap s.heap [] := va_S.rf
  have hown : s.vm.findClass RX9 = some m.cls := hown
  refine sm_en _ (Nat.le_of_ble_eq_true rfl) hargs (fun ls hl => ?_)
  have hl : lv_has ls 2 [(0, .ref (ad 0))] := hl
  generalize hQ : MQ below _ args s _ _ _ = Q
  unfold fX9_clear at hf
  refine lv_aload_n hx hb dX9_clear_0 rfl (lv_at hl 0 rfl) ?_
  refine va_get (D := (g.1, g.2.1)) (ci := 9) (v := .int (S.1 18)) (C := RX9) (T := TX9) (N := 39) hx hb hts in_X9 hown hK hP 0 rfl rfl 18 (by decide) (hts _ q874) (fun _ h9 => h9) rfl dX9_clear_1 ?_
  refine lv_istore_n (lv' := [(1, .int (S.1 18)), (0, .ref (ad 0))]) hx hb dX9_clear_4 rfl hl (by decide) rfl (fun ls hl => ?_)
  refine lv_aload_n hx hb dX9_clear_5 rfl (lv_at hl 1 rfl) ?_
  refine lv_iconst (v := 0) hx hb dX9_clear_6 (by decide) ?_
  refine va_put (D := (g.1, g.2.1)) (ci := 9) (v := .int 0) (ty := .int) (C := RX9) (T := TX9) (N := 39) hx hb hts in_X9 tyX9 tyX9_ok nmX9 hown hK hP hD hS 0 rfl rfl 18 (by decide) (hts _ q874) (fun _ h9 => h9) rfl (by decide +kernel) rfl rfl (Nat.le_of_ble_eq_true rfl) dX9_clear_7 (fun H locs hP hD hS => ?_)
  obtain ⟨S_1, eS_1, hf⟩ := sm_lt_e hf
  have hP : PP g (WM g ad S_1) H := by rw [eS_1]; exact pmf18 hP
  have hD : va_D (AM ad) (WM g ad S_1) := by rw [eS_1]; exact dmf18 hD
  refine lv_iload_n hx hb dX9_clear_10 rfl (lv_at hl 0 rfl) ?_
  have hf := Option.some.inj hf
  rw [← hQ]
  have hf := Prod.mk.inj hf
  exact W.iret (v := S.1 18) hx hb hr (fun t ht hW => ⟨⟨_, (), rfl, hf.2, by rw [ht, ← hf.1]; exact hP, by rw [← hf.1]; exact hD⟩, hS.F ht⟩) hS.2.2 dX9_clear_11
abbrev rX9_clerkRate : Room := { frames := 1, cells := 0, slots := 0, locals := 22 }
set_option maxHeartbeats 4000000 in
theorem wX9_clerkRate (l : Launch) (g : GG) (ad : Nat → Nat) (S : MS) (a1 : Int32) (Sf : MS) (rf : Int32) (hf : fX9_clerkRate S a1 = some (Sf, rf)) : Met l yX9_clerkRate (ws_ yX9_clerkRate cX9_clerkRate 2 (some .int)) rX9_clerkRate (va_Pc [.ref (ad 0), .int a1] (fun U => PP g (WM g ad S) U.heap ∧ EV g U ∧ va_D (AM ad) (WM g ad S))) (va_Qi (fun y (_ : Unit) => y = rf) (fun _ t => PP g (WM g ad Sf) t.heap ∧ va_D (AM ad) (WM g ad Sf)) (AM ad)) 0 0 (AM ad) := by
  refine sm_st (by decide) ?_
  intro p e s m args below meth c hx hb hr hlocks hml hown hnm hts hv
  obtain ⟨hargs, hP, hE, hD⟩ := hv
  obtain ⟨hK, hN⟩ := id hE
  have hS : va_S (AM ad) s.heap s.heap [] := va_S.rf
  have hown : s.vm.findClass RX9 = some m.cls := hown
  refine sm_en _ (Nat.le_of_ble_eq_true rfl) hargs (fun ls hl => ?_)
  have hl : lv_has ls 2 [(0, .ref (ad 0)), (1, .int a1)] := hl
  generalize hQ : MQ below _ args s _ _ _ = Q
  unfold fX9_clerkRate at hf
  refine lv_aload_n hx hb dX9_clerkRate_0 rfl (lv_at hl 0 rfl) ?_
  refine lv_dup hx hb dX9_clerkRate_1 rfl ?_
  refine va_get (D := (g.1, g.2.1)) (ci := 9) (v := .long S.2.2.1) (C := RX9) (T := TX9) (N := 39) hx hb hts in_X9 hown hK hP 0 rfl rfl 16 (by decide) (hts _ q872) (fun _ h9 => h9) rfl dX9_clerkRate_2 ?_
  refine lv_lconst (v := 1) hx hb dX9_clerkRate_5 (by decide) ?_
  refine lv_ladd hx hb dX9_clerkRate_6 ?_
  refine va_put (D := (g.1, g.2.1)) (ci := 9) (v := .long (S.2.2.1 + 1)) (ty := .long) (C := RX9) (T := TX9) (N := 39) hx hb hts in_X9 tyX9 tyX9_ok nmX9 hown hK hP hD hS 0 rfl rfl 16 (by decide) (hts _ q872) (fun _ h9 => h9) rfl (by decide +kernel) rfl rfl (Nat.le_of_ble_eq_true rfl) dX9_clerkRate_7 (fun H locs hP hD hS => ?_)
  obtain ⟨S_1, eS_1, hf⟩ := sm_lt_e hf
  have hP : PP g (WM g ad S_1) H := by rw [eS_1]; exact pmf16 hP
  have hD : va_D (AM ad) (WM g ad S_1) := by rw [eS_1]; exact dmf16 hD
  refine lv_aload_n hx hb dX9_clerkRate_10 rfl (lv_at hl 0 rfl) ?_
  refine va_get (D := (g.1, g.2.1)) (ci := 9) (v := .ref (ad 6)) (C := RX9) (T := TX9) (N := 39) hx hb hts in_X9 hown hK hP 0 rfl rfl 6 (by decide) (hts _ q862) (fun _ h9 => h9) rfl dX9_clerkRate_11 ?_
  refine lv_iconst (v := 3) hx hb dX9_clerkRate_14 (by decide) ?_
  refine lv_iload_n hx hb dX9_clerkRate_15 rfl (lv_at hl 1 rfl) ?_
  refine lv_imul hx hb dX9_clerkRate_16 ?_
  obtain ⟨hg, hf⟩ := sm_gd_e hf
  refine va_iald hx hb hK hP 2 0 rfl rfl (sm_in hg) dX9_clerkRate_17 ?_
  obtain ⟨r_2, h_3, hf⟩ := sm_b1_e hf
  refine vp_callSi (W.runS (As := [.int (S_1.2.1 6 (3 * a1).toNatClampNeg)]) (rest := []) ⟨hx, hb, hml, hown, hts⟩ (wX9_bits l (S_1.2.1 6 (3 * a1).toNatClampNeg) r_2 h_3) (va_cwS 1 hts (lw_S q1085 q1086 q70 q1087) rfl rfl rfl (by decide +kernel) ⟨Nat.le_of_ble_eq_true rfl, Nat.le_of_ble_eq_true rfl⟩) (sm_ps) rfl rfl hl.1 rfl (lv_room (Nat.le_of_ble_eq_true rfl)) dX9_clerkRate_18 ⟨Nat.le_of_ble_eq_true rfl, Nat.le_of_ble_eq_true rfl⟩) (fun r_5 er_4 => ?_)
  have er_4 := er_4.symm
  subst er_4
  have hf := Option.some.inj hf
  rw [← hQ]
  have hf := Prod.mk.inj hf
  exact W.iret (v := r_2) hx hb hr (fun t ht hW => ⟨⟨_, (), rfl, hf.2, by rw [ht, ← hf.1]; exact hP, by rw [← hf.1]; exact hD⟩, hS.F ht⟩) hS.2.2 dX9_clerkRate_21
abbrev rX9_comes : Room := { frames := 0, cells := 0, slots := 0, locals := 0 }
set_option maxHeartbeats 4000000 in
theorem wX9_comes (l : Launch) (g : GG) (ad : Nat → Nat) (S : MS) (a1 : Int32) (Sf : MS) (hf : fX9_comes S a1 = some Sf) : Met l yX9_comes (ws_ yX9_comes cX9_comes 3 none) rX9_comes (va_Pc [.ref (ad 0), .int a1] (fun U => PP g (WM g ad S) U.heap ∧ EV g U ∧ va_D (AM ad) (WM g ad S))) (va_Qv (fun (_ : Unit) => True) (fun _ t => PP g (WM g ad Sf) t.heap ∧ va_D (AM ad) (WM g ad Sf)) (AM ad)) 0 0 (AM ad) := by
  refine sm_st (by decide) ?_
  intro p e s m args below meth c hx hb hr hlocks hml hown hnm hts hv
  obtain ⟨hargs, hP, hE, hD⟩ := hv
  obtain ⟨hK, hN⟩ := id hE
  have hS : va_S (AM ad) s.heap s.heap [] := va_S.rf
  have hown : s.vm.findClass RX9 = some m.cls := hown
  refine sm_en _ (Nat.le_of_ble_eq_true rfl) hargs (fun ls hl => ?_)
  have hl : lv_has ls 3 [(0, .ref (ad 0)), (1, .int a1)] := hl
  generalize hQ : MQ below _ args s _ _ _ = Q
  unfold fX9_comes at hf
  refine lv_aload_n hx hb dX9_comes_0 rfl (lv_at hl 0 rfl) ?_
  refine va_get (D := (g.1, g.2.1)) (ci := 9) (v := .ref (ad 31)) (C := RX9) (T := TX9) (N := 39) hx hb hts in_X9 hown hK hP 0 rfl rfl 31 (by decide) (hts _ q887) (fun _ h9 => h9) rfl dX9_comes_1 ?_
  refine lv_iload_n hx hb dX9_comes_4 rfl (lv_at hl 1 rfl) ?_
  refine lv_aload_n hx hb dX9_comes_5 rfl (lv_at hl 0 rfl) ?_
  refine va_get (D := (g.1, g.2.1)) (ci := 9) (v := .ref (ad 30)) (C := RX9) (T := TX9) (N := 39) hx hb hts in_X9 hown hK hP 0 rfl rfl 30 (by decide) (hts _ q886) (fun _ h9 => h9) rfl dX9_comes_6 ?_
  refine lv_iload_n hx hb dX9_comes_9 rfl (lv_at hl 1 rfl) ?_
  obtain ⟨hg, hf⟩ := sm_gd_e hf
  refine va_iald hx hb hK hP 13 0 rfl rfl (sm_in hg) dX9_comes_10 ?_
  obtain ⟨hg, hf⟩ := sm_gd_e hf
  refine va_iast (i := a1) (x := S.2.1 30 a1.toNatClampNeg) hx hb hK hP hD hS 14 0 rfl rfl (sm_in hg) dX9_comes_11 (fun H locs hP hD hS => ?_)
  obtain ⟨S_1, eS_1, hf⟩ := sm_lt_e hf
  have hP : PP g (WM g ad S_1) H := by rw [eS_1]; exact pmr31 hP
  have hD : va_D (AM ad) (WM g ad S_1) := by rw [eS_1]; exact dmr31 hD
  refine lv_iconst (v := 0) hx hb dX9_comes_12 (by decide) ?_
  refine lv_istore_n (lv' := [(2, .int 0), (0, .ref (ad 0)), (1, .int a1)]) hx hb dX9_comes_13 rfl hl (by decide) rfl (fun ls hl => ?_)
  have L_9 : ∀ (n : Nat) (x_2 : Int32) (S_3 : MS) (o_10 : Int32) (o_11 : MS) (H : Heap) (locs : List Loc) (ls : Array Slot), sm_lp (fun q => fX9_comes_14 a1 q.1 q.2) n (x_2, S_3) = some (o_10, o_11) → PP g (WM g ad S_3) H → va_D (AM ad) (WM g ad S_3) → va_S (AM ad) s.heap H locs → lv_has ls 3 [(0, .ref (ad 0)), (1, .int a1), (2, .int x_2)] → (∀ (H : Heap) (locs : List Loc) (ls : Array Slot), PP g (WM g ad o_11) H → va_D (AM ad) (WM g ad o_11) → va_S (AM ad) s.heap H locs → lv_has ls 3 [(0, .ref (ad 0)), (1, .int a1), (2, .int o_10)] → W p l e rX9_comes s m args below meth c H locs 0 0 Q (F0 m 59 ls [])) → W p l e rX9_comes s m args below meth c H locs 0 0 Q (F0 m 14 ls []) := by
    intro n
    induction n with
    | zero =>
      intro _ _ _ _ _ _ _ hf
      cases hf
    | succ n ih_4 =>
      intro x_2 S_3 o_10 o_11 H locs ls hf hP hD hS hl kx_5
      obtain ⟨q, hf, hc_8⟩ := sm_bnd hf
      have hf : fX9_comes_14 a1 x_2 S_3 = some q := hf
      unfold fX9_comes_14 at hf
      refine lv_iload_n hx hb dX9_comes_14 rfl (lv_at hl 2 rfl) ?_
      refine lv_aload_n hx hb dX9_comes_15 rfl (lv_at hl 0 rfl) ?_
      refine va_get (D := (g.1, g.2.1)) (ci := 9) (v := .int (S_3.1 3)) (C := RX9) (T := TX9) (N := 39) hx hb hts in_X9 hown hK hP 0 rfl rfl 3 (by decide) (hts _ q859) (fun _ h9 => h9) rfl dX9_comes_16 ?_
      refine lv_icmp_ge (tgt := 59) hx hb dX9_comes_19 (by decide) (fun c_12 => ?_) (fun c_12 => ?_)
      · have hf := (if_pos c_12).symm.trans hf
        cases hf
        have hc_8 : some (x_2, S_3) = some (o_10, o_11) := hc_8
        cases hc_8
        exact kx_5 _ _ _ hP hD hS (lv_sub hl [0, 1, 2] rfl)
      · have hf := (if_neg c_12).symm.trans hf
        refine lv_aload_n hx hb dX9_comes_22 rfl (lv_at hl 0 rfl) ?_
        refine va_get (D := (g.1, g.2.1)) (ci := 9) (v := .ref (ad 32)) (C := RX9) (T := TX9) (N := 39) hx hb hts in_X9 hown hK hP 0 rfl rfl 32 (by decide) (hts _ q888) (fun _ h9 => h9) rfl dX9_comes_23 ?_
        refine lv_iload_n hx hb dX9_comes_26 rfl (lv_at hl 2 rfl) ?_
        refine lv_aload_n hx hb dX9_comes_27 rfl (lv_at hl 0 rfl) ?_
        refine va_get (D := (g.1, g.2.1)) (ci := 9) (v := .ref (ad 31)) (C := RX9) (T := TX9) (N := 39) hx hb hts in_X9 hown hK hP 0 rfl rfl 31 (by decide) (hts _ q887) (fun _ h9 => h9) rfl dX9_comes_28 ?_
        refine lv_iload_n hx hb dX9_comes_31 rfl (lv_at hl 2 rfl) ?_
        obtain ⟨hg, hf⟩ := sm_gd_e hf
        refine va_iald hx hb hK hP 14 0 rfl rfl (sm_in hg) dX9_comes_32 ?_
        refine lv_aload_n hx hb dX9_comes_33 rfl (lv_at hl 0 rfl) ?_
        refine va_get (D := (g.1, g.2.1)) (ci := 9) (v := .ref (ad 30)) (C := RX9) (T := TX9) (N := 39) hx hb hts in_X9 hown hK hP 0 rfl rfl 30 (by decide) (hts _ q886) (fun _ h9 => h9) rfl dX9_comes_34 ?_
        refine lv_iload_n hx hb dX9_comes_37 rfl (lv_at hl 1 rfl) ?_
        obtain ⟨hg, hf⟩ := sm_gd_e hf
        refine va_iald hx hb hK hP 13 0 rfl rfl (sm_in hg) dX9_comes_38 ?_
        obtain ⟨x_13, hf, hf0⟩ := sm_b1_e hf
        suffices hj_14 : ∀ (ls : Array Slot), lv_has ls 3 [(0, .ref (ad 0)), (1, .int a1), (2, .int x_2)] → W p l e rX9_comes s m args below meth c H locs 0 0 Q (F0 m 52 ls [.int x_13, .int x_2, .ref (ad 32)]) from by
          refine lv_icmp_ne (tgt := 46) hx hb dX9_comes_39 (by decide) (fun c_15 => ?_) (fun c_15 => ?_)
          · have hf := (if_neg c_15).symm.trans hf
            refine lv_aload_n hx hb dX9_comes_46 rfl (lv_at hl 0 rfl) ?_
            refine va_get (D := (g.1, g.2.1)) (ci := 9) (v := .ref (ad 32)) (C := RX9) (T := TX9) (N := 39) hx hb hts in_X9 hown hK hP 0 rfl rfl 32 (by decide) (hts _ q888) (fun _ h9 => h9) rfl dX9_comes_47 ?_
            refine lv_iload_n hx hb dX9_comes_50 rfl (lv_at hl 2 rfl) ?_
            obtain ⟨hg, hf⟩ := sm_gd_e hf
            refine va_iald hx hb hK hP 15 0 rfl rfl (sm_in hg) dX9_comes_51 ?_
            cases hf
            exact hj_14 _ (lv_sub hl [0, 1, 2] rfl)
          · have hf := (if_pos c_15).symm.trans hf
            refine lv_iconst (v := 0) hx hb dX9_comes_42 (by decide) ?_
            refine lv_goto (tgt := 52) hx hb dX9_comes_43 (by decide) ?_
            cases hf
            exact hj_14 _ (lv_sub hl [0, 1, 2] rfl)
        intro ls hl
        have hf := hf0
        obtain ⟨hg, hf⟩ := sm_gd_e hf
        refine va_iast (i := x_2) (x := x_13) hx hb hK hP hD hS 15 0 rfl rfl (sm_in hg) dX9_comes_52 (fun H locs hP hD hS => ?_)
        obtain ⟨S_16, eS_16, hf⟩ := sm_lt_e hf
        have hP : PP g (WM g ad S_16) H := by rw [eS_16]; exact pmr32 hP
        have hD : va_D (AM ad) (WM g ad S_16) := by rw [eS_16]; exact dmr32 hD
        refine lv_iinc (v := x_2 + 1) (lv' := [(2, .int (x_2 + 1)), (0, .ref (ad 0)), (1, .int a1)]) hx hb dX9_comes_53 hl (k := 2) rfl rfl (by decide) rfl (fun ls hl => ?_)
        refine lv_goto (tgt := 14) hx hb dX9_comes_56 (by decide) ?_
        cases hf
        exact ih_4 _ _ _ _ _ _ _ hc_8 hP hD hS (lv_sub hl [1, 2, 0] rfl) kx_5
  obtain ⟨x_18, S_19, ho, hf⟩ := sm_b2_e hf
  refine L_9 FU 0 S_1 x_18 S_19 H locs ls ho hP hD hS (lv_sub hl [1, 2, 0] rfl) ?_
  intro H locs ls hP hD hS hl
  have hf := Option.some.inj hf
  rw [← hQ]
  exact W.vret hx hb hr (fun t ht hW => ⟨⟨(), rfl, trivial, by rw [ht, ← hf]; exact hP, by rw [← hf]; exact hD⟩, hS.F ht⟩) hS.2.2 dX9_comes_59
abbrev rX9_count : Room := { frames := 0, cells := 0, slots := 0, locals := 0 }
set_option maxHeartbeats 4000000 in
theorem wX9_count (l : Launch) (g : GG) (ad : Nat → Nat) (S : MS) (a1 : Int32) (rf : Int32) (hf : fX9_count S a1 = rf) : Met l yX9_count (ws_ yX9_count cX9_count 2 (some .int)) rX9_count (va_Pc [.ref (ad 0), .int a1] (fun U => PP g (WM g ad S) U.heap ∧ EV g U)) (vp_Si (fun y => y = rf)) 0 0 (fun _ => False) := by
  refine sm_st (by decide) ?_
  intro p e s m args below meth c hx hb hr hlocks hml hown hnm hts hv
  obtain ⟨hargs, hP, hE⟩ := hv
  obtain ⟨hK, hN⟩ := id hE
  have hown : s.vm.findClass RX9 = some m.cls := hown
  refine sm_en _ (Nat.le_of_ble_eq_true rfl) hargs (fun ls hl => ?_)
  have hl : lv_has ls 2 [(0, .ref (ad 0)), (1, .int a1)] := hl
  generalize hQ : MQ below _ args s _ _ _ = Q
  unfold fX9_count at hf
  refine lv_iload_n hx hb dX9_count_0 rfl (lv_at hl 1 rfl) ?_
  by_cases c_1_0 : a1 = 0
  · have hf := (if_pos c_1_0).symm.trans hf
    refine lv_tableIn (tgt := 48) hx hb dX9_count_1 (by rw [c_1_0]; decide) (by rw [c_1_0]; decide) (by rw [c_1_0]; rfl) (by decide) ?_
    refine lv_aload_n hx hb dX9_count_48 rfl (lv_at hl 0 rfl) ?_
    refine va_get (D := (g.1, g.2.1)) (ci := 9) (v := .int (S.1 0)) (C := RX9) (T := TX9) (N := 39) hx hb hts in_X9 hown hK hP 0 rfl rfl 0 (by decide) (hts _ q856) (fun _ h9 => h9) rfl dX9_count_49 ?_
    rw [← hQ]
    exact W.iret (v := S.1 0) hx hb hr (fun t ht hW => ⟨_, rfl, hf, ht⟩) (fun _ h => by cases h) dX9_count_52
  have hf := (if_neg c_1_0).symm.trans hf
  by_cases c_1_1 : a1 = 1
  · have hf := (if_pos c_1_1).symm.trans hf
    refine lv_tableIn (tgt := 53) hx hb dX9_count_1 (by rw [c_1_1]; decide) (by rw [c_1_1]; decide) (by rw [c_1_1]; rfl) (by decide) ?_
    refine lv_aload_n hx hb dX9_count_53 rfl (lv_at hl 0 rfl) ?_
    refine va_get (D := (g.1, g.2.1)) (ci := 9) (v := .int (S.1 1)) (C := RX9) (T := TX9) (N := 39) hx hb hts in_X9 hown hK hP 0 rfl rfl 1 (by decide) (hts _ q857) (fun _ h9 => h9) rfl dX9_count_54 ?_
    rw [← hQ]
    exact W.iret (v := S.1 1) hx hb hr (fun t ht hW => ⟨_, rfl, hf, ht⟩) (fun _ h => by cases h) dX9_count_57
  have hf := (if_neg c_1_1).symm.trans hf
  by_cases c_1_2 : a1 = 2
  · have hf := (if_pos c_1_2).symm.trans hf
    refine lv_tableIn (tgt := 58) hx hb dX9_count_1 (by rw [c_1_2]; decide) (by rw [c_1_2]; decide) (by rw [c_1_2]; rfl) (by decide) ?_
    refine lv_aload_n hx hb dX9_count_58 rfl (lv_at hl 0 rfl) ?_
    refine va_get (D := (g.1, g.2.1)) (ci := 9) (v := .int (S.1 2)) (C := RX9) (T := TX9) (N := 39) hx hb hts in_X9 hown hK hP 0 rfl rfl 2 (by decide) (hts _ q858) (fun _ h9 => h9) rfl dX9_count_59 ?_
    rw [← hQ]
    exact W.iret (v := S.1 2) hx hb hr (fun t ht hW => ⟨_, rfl, hf, ht⟩) (fun _ h => by cases h) dX9_count_62
  have hf := (if_neg c_1_2).symm.trans hf
  by_cases c_1_3 : a1 = 3
  · have hf := (if_pos c_1_3).symm.trans hf
    refine lv_tableIn (tgt := 63) hx hb dX9_count_1 (by rw [c_1_3]; decide) (by rw [c_1_3]; decide) (by rw [c_1_3]; rfl) (by decide) ?_
    refine lv_aload_n hx hb dX9_count_63 rfl (lv_at hl 0 rfl) ?_
    refine va_get (D := (g.1, g.2.1)) (ci := 9) (v := .int (S.1 3)) (C := RX9) (T := TX9) (N := 39) hx hb hts in_X9 hown hK hP 0 rfl rfl 3 (by decide) (hts _ q859) (fun _ h9 => h9) rfl dX9_count_64 ?_
    rw [← hQ]
    exact W.iret (v := S.1 3) hx hb hr (fun t ht hW => ⟨_, rfl, hf, ht⟩) (fun _ h => by cases h) dX9_count_67
  have hf := (if_neg c_1_3).symm.trans hf
  by_cases c_1_4 : a1 = 4
  · have hf := (if_pos c_1_4).symm.trans hf
    refine lv_tableIn (tgt := 68) hx hb dX9_count_1 (by rw [c_1_4]; decide) (by rw [c_1_4]; decide) (by rw [c_1_4]; rfl) (by decide) ?_
    refine lv_aload_n hx hb dX9_count_68 rfl (lv_at hl 0 rfl) ?_
    refine va_get (D := (g.1, g.2.1)) (ci := 9) (v := .int (S.1 5)) (C := RX9) (T := TX9) (N := 39) hx hb hts in_X9 hown hK hP 0 rfl rfl 5 (by decide) (hts _ q861) (fun _ h9 => h9) rfl dX9_count_69 ?_
    rw [← hQ]
    exact W.iret (v := S.1 5) hx hb hr (fun t ht hW => ⟨_, rfl, hf, ht⟩) (fun _ h => by cases h) dX9_count_72
  have hf := (if_neg c_1_4).symm.trans hf
  by_cases c_1_5 : a1 = 5
  · have hf := (if_pos c_1_5).symm.trans hf
    refine lv_tableIn (tgt := 73) hx hb dX9_count_1 (by rw [c_1_5]; decide) (by rw [c_1_5]; decide) (by rw [c_1_5]; rfl) (by decide) ?_
    refine lv_aload_n hx hb dX9_count_73 rfl (lv_at hl 0 rfl) ?_
    refine va_get (D := (g.1, g.2.1)) (ci := 9) (v := .ref (ad 7)) (C := RX9) (T := TX9) (N := 39) hx hb hts in_X9 hown hK hP 0 rfl rfl 7 (by decide) (hts _ q863) (fun _ h9 => h9) rfl dX9_count_74 ?_
    refine lv_bipush (v := 20) hx hb dX9_count_77 (by decide) ?_
    refine va_iald hx hb hK hP 3 0 rfl rfl (sm_in rfl) dX9_count_79 ?_
    rw [← hQ]
    exact W.iret (v := S.2.1 7 20) hx hb hr (fun t ht hW => ⟨_, rfl, hf, ht⟩) (fun _ h => by cases h) dX9_count_80
  have hf := (if_neg c_1_5).symm.trans hf
  by_cases c_1_6 : a1 = 6
  · have hf := (if_pos c_1_6).symm.trans hf
    refine lv_tableIn (tgt := 81) hx hb dX9_count_1 (by rw [c_1_6]; decide) (by rw [c_1_6]; decide) (by rw [c_1_6]; rfl) (by decide) ?_
    refine lv_aload_n hx hb dX9_count_81 rfl (lv_at hl 0 rfl) ?_
    refine va_get (D := (g.1, g.2.1)) (ci := 9) (v := .int (S.1 12)) (C := RX9) (T := TX9) (N := 39) hx hb hts in_X9 hown hK hP 0 rfl rfl 12 (by decide) (hts _ q868) (fun _ h9 => h9) rfl dX9_count_82 ?_
    rw [← hQ]
    exact W.iret (v := S.1 12) hx hb hr (fun t ht hW => ⟨_, rfl, hf, ht⟩) (fun _ h => by cases h) dX9_count_85
  have hf := (if_neg c_1_6).symm.trans hf
  by_cases c_1_7 : a1 = 7
  · have hf := (if_pos c_1_7).symm.trans hf
    refine lv_tableIn (tgt := 86) hx hb dX9_count_1 (by rw [c_1_7]; decide) (by rw [c_1_7]; decide) (by rw [c_1_7]; rfl) (by decide) ?_
    refine lv_aload_n hx hb dX9_count_86 rfl (lv_at hl 0 rfl) ?_
    refine va_get (D := (g.1, g.2.1)) (ci := 9) (v := .int (S.1 18)) (C := RX9) (T := TX9) (N := 39) hx hb hts in_X9 hown hK hP 0 rfl rfl 18 (by decide) (hts _ q874) (fun _ h9 => h9) rfl dX9_count_87 ?_
    rw [← hQ]
    exact W.iret (v := S.1 18) hx hb hr (fun t ht hW => ⟨_, rfl, hf, ht⟩) (fun _ h => by cases h) dX9_count_90
  have hf := (if_neg c_1_7).symm.trans hf
  refine lv_tableOut (tgt := 91) hx hb dX9_count_1 (sm_out8 c_1_0 c_1_1 c_1_2 c_1_3 c_1_4 c_1_5 c_1_6 c_1_7) (by decide) ?_
  refine lv_iconst (v := (-1)) hx hb dX9_count_91 (by decide) ?_
  rw [← hQ]
  exact W.iret (v := (-1)) hx hb hr (fun t ht hW => ⟨_, rfl, hf, ht⟩) (fun _ h => by cases h) dX9_count_92
abbrev rX9_findSick : Room := { frames := 0, cells := 0, slots := 0, locals := 0 }
set_option maxHeartbeats 4000000 in
theorem wX9_findSick (l : Launch) (g : GG) (ad : Nat → Nat) (S : MS) (a1 : Int32) (Sf : MS) (hf : fX9_findSick S a1 = some Sf) : Met l yX9_findSick (ws_ yX9_findSick cX9_findSick 5 none) rX9_findSick (va_Pc [.ref (ad 0), .int a1] (fun U => PP g (WM g ad S) U.heap ∧ EV g U ∧ va_D (AM ad) (WM g ad S))) (va_Qv (fun (_ : Unit) => True) (fun _ t => PP g (WM g ad Sf) t.heap ∧ va_D (AM ad) (WM g ad Sf)) (AM ad)) 0 0 (AM ad) := by
  refine sm_st (by decide) ?_
  intro p e s m args below meth c hx hb hr hlocks hml hown hnm hts hv
  obtain ⟨hargs, hP, hE, hD⟩ := hv
  obtain ⟨hK, hN⟩ := id hE
  have hS : va_S (AM ad) s.heap s.heap [] := va_S.rf
  have hown : s.vm.findClass RX9 = some m.cls := hown
  refine sm_en _ (Nat.le_of_ble_eq_true rfl) hargs (fun ls hl => ?_)
  have hl : lv_has ls 5 [(0, .ref (ad 0)), (1, .int a1)] := hl
  generalize hQ : MQ below _ args s _ _ _ = Q
  unfold fX9_findSick at hf
  refine lv_iconst (v := 0) hx hb dX9_findSick_0 (by decide) ?_
  refine lv_istore_n (lv' := [(2, .int 0), (0, .ref (ad 0)), (1, .int a1)]) hx hb dX9_findSick_1 rfl hl (by decide) rfl (fun ls hl => ?_)
  have L_8 : ∀ (n : Nat) (x_1 : Int32) (S_2 : MS) (o_9 : Int32) (o_10 : MS) (H : Heap) (locs : List Loc) (ls : Array Slot), sm_lp (fun q => fX9_findSick_2 q.1 q.2) n (x_1, S_2) = some (o_9, o_10) → PP g (WM g ad S_2) H → va_D (AM ad) (WM g ad S_2) → va_S (AM ad) s.heap H locs → lv_has ls 5 [(0, .ref (ad 0)), (1, .int a1), (2, .int x_1)] → (∀ (H : Heap) (locs : List Loc) (ls : Array Slot), PP g (WM g ad o_10) H → va_D (AM ad) (WM g ad o_10) → va_S (AM ad) s.heap H locs → lv_has ls 5 [(0, .ref (ad 0)), (1, .int a1), (2, .int o_9)] → W p l e rX9_findSick s m args below meth c H locs 0 0 Q (F0 m 29 ls [])) → W p l e rX9_findSick s m args below meth c H locs 0 0 Q (F0 m 2 ls []) := by
    intro n
    induction n with
    | zero =>
      intro _ _ _ _ _ _ _ hf
      cases hf
    | succ n ih_3 =>
      intro x_1 S_2 o_9 o_10 H locs ls hf hP hD hS hl kx_4
      obtain ⟨q, hf, hc_7⟩ := sm_bnd hf
      have hf : fX9_findSick_2 x_1 S_2 = some q := hf
      unfold fX9_findSick_2 at hf
      refine lv_iload_n hx hb dX9_findSick_2 rfl (lv_at hl 2 rfl) ?_
      refine lv_bipush (v := 7) hx hb dX9_findSick_3 (by decide) ?_
      refine lv_icmp_ge (tgt := 29) hx hb dX9_findSick_5 (by decide) (fun c_11 => ?_) (fun c_11 => ?_)
      · have hf := (if_pos c_11).symm.trans hf
        cases hf
        have hc_7 : some (x_1, S_2) = some (o_9, o_10) := hc_7
        cases hc_7
        exact kx_4 _ _ _ hP hD hS (lv_sub hl [0, 1, 2] rfl)
      · have hf := (if_neg c_11).symm.trans hf
        refine lv_aload_n hx hb dX9_findSick_8 rfl (lv_at hl 0 rfl) ?_
        refine va_get (D := (g.1, g.2.1)) (ci := 9) (v := .ref (ad 34)) (C := RX9) (T := TX9) (N := 39) hx hb hts in_X9 hown hK hP 0 rfl rfl 34 (by decide) (hts _ q890) (fun _ h9 => h9) rfl dX9_findSick_9 ?_
        refine lv_iload_n hx hb dX9_findSick_12 rfl (lv_at hl 2 rfl) ?_
        refine lv_iload_n hx hb dX9_findSick_13 rfl (lv_at hl 2 rfl) ?_
        refine lv_if_ne (tgt := 21) hx hb dX9_findSick_14 (by decide) (fun c_12 => ?_) (fun c_12 => ?_)
        · have hf := (if_neg c_12).symm.trans hf
          refine lv_lconst (v := 0) hx hb dX9_findSick_21 (by decide) ?_
          obtain ⟨hg, hf⟩ := sm_gd_e hf
          refine va_last (i := x_1) (x := 0) hx hb hK hP hD hS 17 3 rfl rfl (sm_in hg) dX9_findSick_22 (fun H locs hP hD hS => ?_)
          obtain ⟨S_13, eS_13, hf⟩ := sm_lt_e hf
          have hP : PP g (WM g ad S_13) H := by rw [eS_13]; exact pmr34 hP
          have hD : va_D (AM ad) (WM g ad S_13) := by rw [eS_13]; exact dmr34 hD
          refine lv_iinc (v := x_1 + 1) (lv' := [(2, .int (x_1 + 1)), (0, .ref (ad 0)), (1, .int a1)]) hx hb dX9_findSick_23 hl (k := 2) rfl rfl (by decide) rfl (fun ls hl => ?_)
          refine lv_goto (tgt := 2) hx hb dX9_findSick_26 (by decide) ?_
          cases hf
          exact ih_3 _ _ _ _ _ _ _ hc_7 hP hD hS (lv_sub hl [1, 2, 0] rfl) kx_4
        · have hf := (if_pos c_12).symm.trans hf
          refine lv_lconst (v := 1) hx hb dX9_findSick_17 (by decide) ?_
          refine lv_goto (tgt := 22) hx hb dX9_findSick_18 (by decide) ?_
          obtain ⟨hg, hf⟩ := sm_gd_e hf
          refine va_last (i := x_1) (x := 1) hx hb hK hP hD hS 17 3 rfl rfl (sm_in hg) dX9_findSick_22 (fun H locs hP hD hS => ?_)
          obtain ⟨S_14, eS_14, hf⟩ := sm_lt_e hf
          have hP : PP g (WM g ad S_14) H := by rw [eS_14]; exact pmr34 hP
          have hD : va_D (AM ad) (WM g ad S_14) := by rw [eS_14]; exact dmr34 hD
          refine lv_iinc (v := x_1 + 1) (lv' := [(2, .int (x_1 + 1)), (0, .ref (ad 0)), (1, .int a1)]) hx hb dX9_findSick_23 hl (k := 2) rfl rfl (by decide) rfl (fun ls hl => ?_)
          refine lv_goto (tgt := 2) hx hb dX9_findSick_26 (by decide) ?_
          cases hf
          exact ih_3 _ _ _ _ _ _ _ hc_7 hP hD hS (lv_sub hl [1, 2, 0] rfl) kx_4
  obtain ⟨x_16, S_17, ho, hf⟩ := sm_b2_e hf
  refine L_8 FU 0 S x_16 S_17 s.heap [] ls ho hP hD hS (lv_sub hl [1, 2, 0] rfl) ?_
  intro H locs ls hP hD hS hl
  refine lv_iconst (v := 0) hx hb dX9_findSick_29 (by decide) ?_
  refine lv_istore_n (lv' := [(2, .int 0), (0, .ref (ad 0)), (1, .int a1)]) hx hb dX9_findSick_30 rfl hl (by decide) rfl (fun ls hl => ?_)
  have L_25 : ∀ (n : Nat) (x_18 : Int32) (S_19 : MS) (o_26 : Int32) (o_27 : MS) (H : Heap) (locs : List Loc) (ls : Array Slot), sm_lp (fun q => fX9_findSick_31 a1 q.1 q.2) n (x_18, S_19) = some (o_26, o_27) → PP g (WM g ad S_19) H → va_D (AM ad) (WM g ad S_19) → va_S (AM ad) s.heap H locs → lv_has ls 5 [(0, .ref (ad 0)), (1, .int a1), (2, .int x_18)] → (∀ (H : Heap) (locs : List Loc) (ls : Array Slot), PP g (WM g ad o_27) H → va_D (AM ad) (WM g ad o_27) → va_S (AM ad) s.heap H locs → lv_has ls 5 [(0, .ref (ad 0)), (1, .int a1), (2, .int o_26)] → W p l e rX9_findSick s m args below meth c H locs 0 0 Q (F0 m 118 ls [])) → W p l e rX9_findSick s m args below meth c H locs 0 0 Q (F0 m 31 ls []) := by
    intro n
    induction n with
    | zero =>
      intro _ _ _ _ _ _ _ hf
      cases hf
    | succ n ih_20 =>
      intro x_18 S_19 o_26 o_27 H locs ls hf hP hD hS hl kx_21
      obtain ⟨q, hf, hc_24⟩ := sm_bnd hf
      have hf : fX9_findSick_31 a1 x_18 S_19 = some q := hf
      unfold fX9_findSick_31 at hf
      refine lv_iload_n hx hb dX9_findSick_31 rfl (lv_at hl 2 rfl) ?_
      refine lv_aload_n hx hb dX9_findSick_32 rfl (lv_at hl 0 rfl) ?_
      refine va_get (D := (g.1, g.2.1)) (ci := 9) (v := .int (S_19.1 3)) (C := RX9) (T := TX9) (N := 39) hx hb hts in_X9 hown hK hP 0 rfl rfl 3 (by decide) (hts _ q859) (fun _ h9 => h9) rfl dX9_findSick_33 ?_
      refine lv_icmp_ge (tgt := 118) hx hb dX9_findSick_36 (by decide) (fun c_28 => ?_) (fun c_28 => ?_)
      · have hf := (if_pos c_28).symm.trans hf
        cases hf
        have hc_24 : some (x_18, S_19) = some (o_26, o_27) := hc_24
        cases hc_24
        exact kx_21 _ _ _ hP hD hS (lv_sub hl [0, 1, 2] rfl)
      · have hf := (if_neg c_28).symm.trans hf
        refine lv_aload_n hx hb dX9_findSick_39 rfl (lv_at hl 0 rfl) ?_
        refine va_get (D := (g.1, g.2.1)) (ci := 9) (v := .ref (ad 4)) (C := RX9) (T := TX9) (N := 39) hx hb hts in_X9 hown hK hP 0 rfl rfl 4 (by decide) (hts _ q860) (fun _ h9 => h9) rfl dX9_findSick_40 ?_
        refine lv_iconst (v := 2) hx hb dX9_findSick_43 (by decide) ?_
        refine lv_iload_n hx hb dX9_findSick_44 rfl (lv_at hl 2 rfl) ?_
        refine lv_imul hx hb dX9_findSick_45 ?_
        refine lv_iconst (v := 1) hx hb dX9_findSick_46 (by decide) ?_
        refine lv_iadd hx hb dX9_findSick_47 ?_
        obtain ⟨hg, hf⟩ := sm_gd_e hf
        refine va_iald hx hb hK hP 1 0 rfl rfl (sm_in hg) dX9_findSick_48 ?_
        refine lv_topi (fun x_29 ex_29 => ?_)
        have hf := sm_lt_v hf ex_29
        refine lv_istore_n (lv' := [(3, .int x_29), (0, .ref (ad 0)), (1, .int a1), (2, .int x_18)]) hx hb dX9_findSick_49 rfl hl (by decide) rfl (fun ls hl => ?_)
        refine lv_bipush (v := 6) hx hb dX9_findSick_50 (by decide) ?_
        refine lv_istore (lv' := [(4, .int 6), (3, .int x_29), (0, .ref (ad 0)), (1, .int a1), (2, .int x_18)]) hx hb dX9_findSick_52 hl (by decide) rfl (fun ls hl => ?_)
        have L_37 : ∀ (n : Nat) (x_30 : Int32) (S_31 : MS) (o_38 : Int32) (o_39 : MS) (H : Heap) (locs : List Loc) (ls : Array Slot), sm_lp (fun q => fX9_findSick_54 a1 x_18 x_29 q.1 q.2) n (x_30, S_31) = some (o_38, o_39) → PP g (WM g ad S_31) H → va_D (AM ad) (WM g ad S_31) → va_S (AM ad) s.heap H locs → lv_has ls 5 [(3, .int x_29), (0, .ref (ad 0)), (1, .int a1), (2, .int x_18), (4, .int x_30)] → (∀ (H : Heap) (locs : List Loc) (ls : Array Slot), PP g (WM g ad o_39) H → va_D (AM ad) (WM g ad o_39) → va_S (AM ad) s.heap H locs → lv_has ls 5 [(3, .int x_29), (0, .ref (ad 0)), (1, .int a1), (2, .int x_18), (4, .int o_38)] → W p l e rX9_findSick s m args below meth c H locs 0 0 Q (F0 m 112 ls [])) → W p l e rX9_findSick s m args below meth c H locs 0 0 Q (F0 m 54 ls []) := by
          intro n
          induction n with
          | zero =>
            intro _ _ _ _ _ _ _ hf
            cases hf
          | succ n ih_32 =>
            intro x_30 S_31 o_38 o_39 H locs ls hf hP hD hS hl kx_33
            obtain ⟨q, hf, hc_36⟩ := sm_bnd hf
            have hf : fX9_findSick_54 a1 x_18 x_29 x_30 S_31 = some q := hf
            unfold fX9_findSick_54 at hf
            refine lv_iload hx hb dX9_findSick_54 (lv_at hl 4 rfl) ?_
            refine lv_if_lt (tgt := 112) hx hb dX9_findSick_56 (by decide) (fun c_40 => ?_) (fun c_40 => ?_)
            · have hf := (if_pos c_40).symm.trans hf
              cases hf
              have hc_36 : some (x_30, S_31) = some (o_38, o_39) := hc_36
              cases hc_36
              exact kx_33 _ _ _ hP hD hS (lv_sub hl [0, 1, 2, 3, 4] rfl)
            · have hf := (if_neg c_40).symm.trans hf
              refine lv_iload_n hx hb dX9_findSick_59 rfl (lv_at hl 3 rfl) ?_
              refine lv_iload_n hx hb dX9_findSick_60 rfl (lv_at hl 2 rfl) ?_
              refine lv_icmp_eq (tgt := 112) hx hb dX9_findSick_61 (by decide) (fun c_41 => ?_) (fun c_41 => ?_)
              · have hf := (if_pos c_41).symm.trans hf
                cases hf
                have hc_36 : some (x_30, S_31) = some (o_38, o_39) := hc_36
                cases hc_36
                exact kx_33 _ _ _ hP hD hS (lv_sub hl [0, 1, 2, 3, 4] rfl)
              · have hf := (if_neg c_41).symm.trans hf
                refine lv_aload_n hx hb dX9_findSick_64 rfl (lv_at hl 1 rfl) ?_
                refine va_get (D := (g.1, g.2.1)) (ci := 9) (v := .ref (ad 34)) (C := RX9) (T := TX9) (N := 39) hx hb hts in_X9 hown hK hP 0 rfl rfl 34 (by decide) (hts _ q890) (fun _ h9 => h9) rfl dX9_findSick_65 ?_
                refine lv_iload hx hb dX9_findSick_68 (lv_at hl 4 rfl) ?_
                refine lv_aload_n hx hb dX9_findSick_70 rfl (lv_at hl 1 rfl) ?_
                refine va_get (D := (g.1, g.2.1)) (ci := 9) (v := .ref (ad 34)) (C := RX9) (T := TX9) (N := 39) hx hb hts in_X9 hown hK hP 0 rfl rfl 34 (by decide) (hts _ q890) (fun _ h9 => h9) rfl dX9_findSick_71 ?_
                refine lv_iload hx hb dX9_findSick_74 (lv_at hl 4 rfl) ?_
                obtain ⟨hg, hf⟩ := sm_gd_e hf
                refine va_lald hx hb hK hP 17 3 rfl rfl (sm_in hg) dX9_findSick_76 ?_
                refine lv_bipush (v := 10) hx hb dX9_findSick_77 (by decide) ?_
                refine lv_iload_n hx hb dX9_findSick_79 rfl (lv_at hl 0 rfl) ?_
                refine lv_isub hx hb dX9_findSick_80 ?_
                refine lv_i2l (v := (10 - x_29).toInt64) hx hb dX9_findSick_81 rfl ?_
                refine lv_lmul hx hb dX9_findSick_82 ?_
                refine lv_iload hx hb dX9_findSick_83 (lv_at hl 4 rfl) ?_
                refine lv_if_ne (tgt := 92) hx hb dX9_findSick_85 (by decide) (fun c_42 => ?_) (fun c_42 => ?_)
                · have hf := (if_neg c_42).symm.trans hf
                  refine lv_aload_n hx hb dX9_findSick_92 rfl (lv_at hl 1 rfl) ?_
                  refine va_get (D := (g.1, g.2.1)) (ci := 9) (v := .ref (ad 34)) (C := RX9) (T := TX9) (N := 39) hx hb hts in_X9 hown hK hP 0 rfl rfl 34 (by decide) (hts _ q890) (fun _ h9 => h9) rfl dX9_findSick_93 ?_
                  refine lv_iload hx hb dX9_findSick_96 (lv_at hl 4 rfl) ?_
                  refine lv_iconst (v := 1) hx hb dX9_findSick_98 (by decide) ?_
                  refine lv_isub hx hb dX9_findSick_99 ?_
                  obtain ⟨hg, hf⟩ := sm_gd_e hf
                  refine va_lald hx hb hK hP 17 3 rfl rfl (sm_in hg) dX9_findSick_100 ?_
                  refine lv_iload_n hx hb dX9_findSick_101 rfl (lv_at hl 0 rfl) ?_
                  refine lv_i2l (v := x_29.toInt64) hx hb dX9_findSick_102 rfl ?_
                  refine lv_lmul hx hb dX9_findSick_103 ?_
                  refine lv_ladd hx hb dX9_findSick_104 ?_
                  obtain ⟨hg, hf⟩ := sm_gd_e hf
                  refine va_last (i := x_30) (x := ((S_31.2.2.2 x_30.toNatClampNeg) * ((10 - x_29).toInt64)) + ((S_31.2.2.2 (x_30 - 1).toNatClampNeg) * x_29.toInt64)) hx hb hK hP hD hS 17 3 rfl rfl (sm_in hg) dX9_findSick_105 (fun H locs hP hD hS => ?_)
                  obtain ⟨S_43, eS_43, hf⟩ := sm_lt_e hf
                  have hP : PP g (WM g ad S_43) H := by rw [eS_43]; exact pmr34 hP
                  have hD : va_D (AM ad) (WM g ad S_43) := by rw [eS_43]; exact dmr34 hD
                  refine lv_iinc (v := x_30 + (-1)) (lv' := [(4, .int (x_30 + (-1))), (3, .int x_29), (0, .ref (ad 0)), (1, .int a1), (2, .int x_18)]) hx hb dX9_findSick_106 hl (k := 4) rfl rfl (by decide) rfl (fun ls hl => ?_)
                  refine lv_goto (tgt := 54) hx hb dX9_findSick_109 (by decide) ?_
                  cases hf
                  exact ih_32 _ _ _ _ _ _ _ hc_36 hP hD hS (lv_sub hl [1, 2, 3, 4, 0] rfl) kx_33
                · have hf := (if_pos c_42).symm.trans hf
                  refine lv_lconst (v := 0) hx hb dX9_findSick_88 (by decide) ?_
                  refine lv_goto (tgt := 104) hx hb dX9_findSick_89 (by decide) ?_
                  refine lv_ladd hx hb dX9_findSick_104 ?_
                  obtain ⟨hg, hf⟩ := sm_gd_e hf
                  refine va_last (i := x_30) (x := ((S_31.2.2.2 x_30.toNatClampNeg) * ((10 - x_29).toInt64)) + 0) hx hb hK hP hD hS 17 3 rfl rfl (sm_in hg) dX9_findSick_105 (fun H locs hP hD hS => ?_)
                  obtain ⟨S_44, eS_44, hf⟩ := sm_lt_e hf
                  have hP : PP g (WM g ad S_44) H := by rw [eS_44]; exact pmr34 hP
                  have hD : va_D (AM ad) (WM g ad S_44) := by rw [eS_44]; exact dmr34 hD
                  refine lv_iinc (v := x_30 + (-1)) (lv' := [(4, .int (x_30 + (-1))), (3, .int x_29), (0, .ref (ad 0)), (1, .int a1), (2, .int x_18)]) hx hb dX9_findSick_106 hl (k := 4) rfl rfl (by decide) rfl (fun ls hl => ?_)
                  refine lv_goto (tgt := 54) hx hb dX9_findSick_109 (by decide) ?_
                  cases hf
                  exact ih_32 _ _ _ _ _ _ _ hc_36 hP hD hS (lv_sub hl [1, 2, 3, 4, 0] rfl) kx_33
        obtain ⟨x_46, S_47, ho, hf⟩ := sm_b2_e hf
        refine L_37 FU 6 S_19 x_46 S_47 H locs ls ho hP hD hS (lv_sub hl [1, 2, 3, 4, 0] rfl) ?_
        intro H locs ls hP hD hS hl
        refine lv_iinc (v := x_18 + 1) (lv' := [(2, .int (x_18 + 1)), (3, .int x_29), (0, .ref (ad 0)), (1, .int a1), (4, .int x_46)]) hx hb dX9_findSick_112 hl (k := 3) rfl rfl (by decide) rfl (fun ls hl => ?_)
        refine lv_goto (tgt := 31) hx hb dX9_findSick_115 (by decide) ?_
        cases hf
        exact ih_20 _ _ _ _ _ _ _ hc_24 hP hD hS (lv_sub hl [2, 3, 0] rfl) kx_21
  obtain ⟨x_49, S_50, ho, hf⟩ := sm_b2_e hf
  refine L_25 FU 0 S_17 x_49 S_50 H locs ls ho hP hD hS (lv_sub hl [1, 2, 0] rfl) ?_
  intro H locs ls hP hD hS hl
  have hf := Option.some.inj hf
  rw [← hQ]
  exact W.vret hx hb hr (fun t ht hW => ⟨⟨(), rfl, trivial, by rw [ht, ← hf]; exact hP, by rw [← hf]; exact hD⟩, hS.F ht⟩) hS.2.2 dX9_findSick_118
abbrev rX9_goneSet : Room := { frames := 0, cells := 0, slots := 0, locals := 0 }
set_option maxHeartbeats 4000000 in
theorem wX9_goneSet (l : Launch) (g : GG) (ad : Nat → Nat) (S : MS) (rf : Int32) (hf : fX9_goneSet S = some rf) : Met l yX9_goneSet (ws_ yX9_goneSet cX9_goneSet 3 (some .int)) rX9_goneSet (va_Pc [.ref (ad 0)] (fun U => PP g (WM g ad S) U.heap ∧ EV g U)) (vp_Si (fun y => y = rf)) 0 0 (fun _ => False) := by
  refine sm_st (by decide) ?_
  intro p e s m args below meth c hx hb hr hlocks hml hown hnm hts hv
  obtain ⟨hargs, hP, hE⟩ := hv
  obtain ⟨hK, hN⟩ := id hE
  have hown : s.vm.findClass RX9 = some m.cls := hown
  refine sm_en _ (Nat.le_of_ble_eq_true rfl) hargs (fun ls hl => ?_)
  have hl : lv_has ls 3 [(0, .ref (ad 0))] := hl
  generalize hQ : MQ below _ args s _ _ _ = Q
  unfold fX9_goneSet at hf
  refine lv_iconst (v := 0) hx hb dX9_goneSet_0 (by decide) ?_
  refine lv_istore_n (lv' := [(1, .int 0), (0, .ref (ad 0))]) hx hb dX9_goneSet_1 rfl hl (by decide) rfl (fun ls hl => ?_)
  refine lv_iconst (v := 0) hx hb dX9_goneSet_2 (by decide) ?_
  refine lv_istore_n (lv' := [(2, .int 0), (1, .int 0), (0, .ref (ad 0))]) hx hb dX9_goneSet_3 rfl hl (by decide) rfl (fun ls hl => ?_)
  have L_8 : ∀ (n : Nat) (x_1 : Int32) (x_2 : Int32) (o_9 : Int32) (o_10 : Int32) (ls : Array Slot), sm_lp (fun q => fX9_goneSet_4 S q.1 q.2) n (x_1, x_2) = some (o_9, o_10) → lv_has ls 3 [(0, .ref (ad 0)), (2, .int x_1), (1, .int x_2)] → (∀ (ls : Array Slot), lv_has ls 3 [(0, .ref (ad 0)), (2, .int o_9), (1, .int o_10)] → W p l e rX9_goneSet s m args below meth c s.heap [] 0 0 Q (F0 m 32 ls [])) → W p l e rX9_goneSet s m args below meth c s.heap [] 0 0 Q (F0 m 4 ls []) := by
    intro n
    induction n with
    | zero =>
      intro _ _ _ _ _ hf
      cases hf
    | succ n ih_3 =>
      intro x_1 x_2 o_9 o_10 ls hf hl kx_4
      obtain ⟨q, hf, hc_7⟩ := sm_bnd hf
      have hf : fX9_goneSet_4 S x_1 x_2 = some q := hf
      unfold fX9_goneSet_4 at hf
      refine lv_iload_n hx hb dX9_goneSet_4 rfl (lv_at hl 1 rfl) ?_
      refine lv_aload_n hx hb dX9_goneSet_5 rfl (lv_at hl 0 rfl) ?_
      refine va_get (D := (g.1, g.2.1)) (ci := 9) (v := .int (S.1 3)) (C := RX9) (T := TX9) (N := 39) hx hb hts in_X9 hown hK hP 0 rfl rfl 3 (by decide) (hts _ q859) (fun _ h9 => h9) rfl dX9_goneSet_6 ?_
      refine lv_icmp_ge (tgt := 32) hx hb dX9_goneSet_9 (by decide) (fun c_11 => ?_) (fun c_11 => ?_)
      · have hf := (if_pos c_11).symm.trans hf
        cases hf
        have hc_7 : some (x_1, x_2) = some (o_9, o_10) := hc_7
        cases hc_7
        exact kx_4 _ (lv_sub hl [0, 1, 2] rfl)
      · have hf := (if_neg c_11).symm.trans hf
        refine lv_iload_n hx hb dX9_goneSet_12 rfl (lv_at hl 2 rfl) ?_
        refine lv_aload_n hx hb dX9_goneSet_13 rfl (lv_at hl 0 rfl) ?_
        refine va_get (D := (g.1, g.2.1)) (ci := 9) (v := .ref (ad 7)) (C := RX9) (T := TX9) (N := 39) hx hb hts in_X9 hown hK hP 0 rfl rfl 7 (by decide) (hts _ q863) (fun _ h9 => h9) rfl dX9_goneSet_14 ?_
        refine lv_bipush (v := 14) hx hb dX9_goneSet_17 (by decide) ?_
        refine lv_iload_n hx hb dX9_goneSet_19 rfl (lv_at hl 1 rfl) ?_
        refine lv_iadd hx hb dX9_goneSet_20 ?_
        obtain ⟨hg, hf⟩ := sm_gd_e hf
        refine va_iald hx hb hK hP 3 0 rfl rfl (sm_in hg) dX9_goneSet_21 ?_
        refine lv_iload_n hx hb dX9_goneSet_22 rfl (lv_at hl 1 rfl) ?_
        refine lv_ishl hx hb dX9_goneSet_23 ?_
        refine lv_ior hx hb dX9_goneSet_24 ?_
        refine lv_topi (fun x_12 ex_12 => ?_)
        have hf := sm_lt_v hf ex_12
        refine lv_istore_n (lv' := [(1, .int x_12), (0, .ref (ad 0)), (2, .int x_1)]) hx hb dX9_goneSet_25 rfl hl (by decide) rfl (fun ls hl => ?_)
        refine lv_iinc (v := x_1 + 1) (lv' := [(2, .int (x_1 + 1)), (1, .int x_12), (0, .ref (ad 0))]) hx hb dX9_goneSet_26 hl (k := 2) rfl rfl (by decide) rfl (fun ls hl => ?_)
        refine lv_goto (tgt := 4) hx hb dX9_goneSet_29 (by decide) ?_
        cases hf
        exact ih_3 _ _ _ _ _ hc_7 (lv_sub hl [2, 0, 1] rfl) kx_4
  obtain ⟨x_14, x_15, ho, hf⟩ := sm_b2_e hf
  refine L_8 FU 0 0 x_14 x_15 ls ho (lv_sub hl [2, 0, 1] rfl) ?_
  intro ls hl
  refine lv_iload_n hx hb dX9_goneSet_32 rfl (lv_at hl 2 rfl) ?_
  have hf := Option.some.inj hf
  rw [← hQ]
  exact W.iret (v := x_15) hx hb hr (fun t ht hW => ⟨_, rfl, hf, ht⟩) (fun _ h => by cases h) dX9_goneSet_33
abbrev rX9_has : Room := { frames := 0, cells := 0, slots := 0, locals := 0 }
set_option maxHeartbeats 4000000 in
theorem wX9_has (l : Launch) (a1 : Int32) (a2 : Int32) (rf : Int32) (hf : fX9_has a1 a2 = rf) : Met l yX9_has (ws_ yX9_has cX9_has 2 (some .boolean)) rX9_has (va_Pc [.int a1, .int a2] (fun _ => True)) (vp_Si (fun y => y = rf)) 0 0 (fun _ => False) := by
  refine sm_st (by decide) ?_
  intro p e s m args below meth c hx hb hr hlocks hml hown hnm hts hv
  obtain ⟨hargs, -⟩ := hv
  have hown : s.vm.findClass RX9 = some m.cls := hown
  refine sm_en _ (Nat.le_of_ble_eq_true rfl) hargs (fun ls hl => ?_)
  have hl : lv_has ls 2 [(0, .int a1), (1, .int a2)] := hl
  generalize hQ : MQ below _ args s _ _ _ = Q
  unfold fX9_has at hf
  refine lv_iload_n hx hb dX9_has_0 rfl (lv_at hl 0 rfl) ?_
  refine lv_iload_n hx hb dX9_has_1 rfl (lv_at hl 1 rfl) ?_
  refine lv_ishr hx hb dX9_has_2 ?_
  refine lv_iconst (v := 1) hx hb dX9_has_3 (by decide) ?_
  refine lv_iand hx hb dX9_has_4 ?_
  refine lv_iconst (v := 1) hx hb dX9_has_5 (by decide) ?_
  refine lv_icmp_ne (tgt := 13) hx hb dX9_has_6 (by decide) (fun c_1 => ?_) (fun c_1 => ?_)
  · have hf := (if_neg c_1).symm.trans hf
    refine lv_iconst (v := 0) hx hb dX9_has_13 (by decide) ?_
    rw [← hQ]
    exact W.zret (v := 0) hx hb hr rfl (fun t ht hW => ⟨_, rfl, hf, ht⟩) (fun _ h => by cases h) dX9_has_14
  · have hf := (if_pos c_1).symm.trans hf
    refine lv_iconst (v := 1) hx hb dX9_has_9 (by decide) ?_
    refine lv_goto (tgt := 14) hx hb dX9_has_10 (by decide) ?_
    rw [← hQ]
    exact W.zret (v := 1) hx hb hr rfl (fun t ht hW => ⟨_, rfl, hf, ht⟩) (fun _ h => by cases h) dX9_has_14
abbrev rX9_in : Room := { frames := 0, cells := 0, slots := 0, locals := 0 }
set_option maxHeartbeats 4000000 in
theorem wX9_in (l : Launch) (a1 : Int32) (a2 : Int32) (a3 : Int32) (rf : Int32) (hf : fX9_in a1 a2 a3 = rf) : Met l yX9_in (ws_ yX9_in cX9_in 3 (some .boolean)) rX9_in (va_Pc [.int a1, .int a2, .int a3] (fun _ => True)) (vp_Si (fun y => y = rf)) 0 0 (fun _ => False) := by
  refine sm_st (by decide) ?_
  intro p e s m args below meth c hx hb hr hlocks hml hown hnm hts hv
  obtain ⟨hargs, -⟩ := hv
  have hown : s.vm.findClass RX9 = some m.cls := hown
  refine sm_en _ (Nat.le_of_ble_eq_true rfl) hargs (fun ls hl => ?_)
  have hl : lv_has ls 3 [(0, .int a1), (1, .int a2), (2, .int a3)] := hl
  generalize hQ : MQ below _ args s _ _ _ = Q
  unfold fX9_in at hf
  refine lv_iload_n hx hb dX9_in_0 rfl (lv_at hl 0 rfl) ?_
  refine lv_iload_n hx hb dX9_in_1 rfl (lv_at hl 1 rfl) ?_
  refine lv_icmp_lt (tgt := 14) hx hb dX9_in_2 (by decide) (fun c_1 => ?_) (fun c_1 => ?_)
  · have hf := (if_pos c_1).symm.trans hf
    refine lv_iconst (v := 0) hx hb dX9_in_14 (by decide) ?_
    rw [← hQ]
    exact W.zret (v := 0) hx hb hr rfl (fun t ht hW => ⟨_, rfl, hf, ht⟩) (fun _ h => by cases h) dX9_in_15
  · have hf := (if_neg c_1).symm.trans hf
    refine lv_iload_n hx hb dX9_in_5 rfl (lv_at hl 0 rfl) ?_
    refine lv_iload_n hx hb dX9_in_6 rfl (lv_at hl 2 rfl) ?_
    refine lv_icmp_gt (tgt := 14) hx hb dX9_in_7 (by decide) (fun c_2 => ?_) (fun c_2 => ?_)
    · have hf := (if_pos c_2).symm.trans hf
      refine lv_iconst (v := 0) hx hb dX9_in_14 (by decide) ?_
      rw [← hQ]
      exact W.zret (v := 0) hx hb hr rfl (fun t ht hW => ⟨_, rfl, hf, ht⟩) (fun _ h => by cases h) dX9_in_15
    · have hf := (if_neg c_2).symm.trans hf
      refine lv_iconst (v := 1) hx hb dX9_in_10 (by decide) ?_
      refine lv_goto (tgt := 15) hx hb dX9_in_11 (by decide) ?_
      rw [← hQ]
      exact W.zret (v := 1) hx hb hr rfl (fun t ht hW => ⟨_, rfl, hf, ht⟩) (fun _ h => by cases h) dX9_in_15
abbrev rX9_back : Room := { frames := 1, cells := 0, slots := 0, locals := 22 }
set_option maxHeartbeats 4000000 in
theorem wX9_back (l : Launch) (g : GG) (ad : Nat → Nat) (S : MS) (a1 : Int32) (Sf : MS) (rf : Int32) (hf : fX9_back S a1 = some (Sf, rf)) : Met l yX9_back (ws_ yX9_back cX9_back 3 (some .int)) rX9_back (va_Pc [.ref (ad 0), .int a1] (fun U => PP g (WM g ad S) U.heap ∧ EV g U ∧ va_D (AM ad) (WM g ad S))) (va_Qi (fun y (_ : Unit) => y = rf) (fun _ t => PP g (WM g ad Sf) t.heap ∧ va_D (AM ad) (WM g ad Sf)) (AM ad)) 0 0 (AM ad) := by
  refine sm_st (by decide) ?_
  intro p e s m args below meth c hx hb hr hlocks hml hown hnm hts hv
  obtain ⟨hargs, hP, hE, hD⟩ := hv
  obtain ⟨hK, hN⟩ := id hE
  have hS : va_S (AM ad) s.heap s.heap [] := va_S.rf
  have hown : s.vm.findClass RX9 = some m.cls := hown
  refine sm_en _ (Nat.le_of_ble_eq_true rfl) hargs (fun ls hl => ?_)
  have hl : lv_has ls 3 [(0, .ref (ad 0)), (1, .int a1)] := hl
  generalize hQ : MQ below _ args s _ _ _ = Q
  unfold fX9_back at hf
  refine lv_iload_n hx hb dX9_back_0 rfl (lv_at hl 1 rfl) ?_
  refine lv_iconst (v := 0) hx hb dX9_back_1 (by decide) ?_
  refine lv_iconst (v := 1) hx hb dX9_back_2 (by decide) ?_
  refine vp_callSi (W.runS (As := [.int a1, .int 0, .int 1]) (rest := []) ⟨hx, hb, hml, hown, hts⟩ (wX9_in l a1 0 1 (fX9_in a1 0 1) rfl) (va_cwS 3 hts (lw_S q979 q980 q70 q981) rfl rfl rfl (by decide +kernel) ⟨Nat.le_of_ble_eq_true rfl, Nat.le_of_ble_eq_true rfl⟩) (sm_ps) rfl rfl hl.1 rfl (lv_room (Nat.le_of_ble_eq_true rfl)) dX9_back_3 ⟨Nat.le_of_ble_eq_true rfl, Nat.le_of_ble_eq_true rfl⟩) (fun r_2 er_1 => ?_)
  have er_1 := er_1.symm
  subst er_1
  refine lv_if_ne (tgt := 11) hx hb dX9_back_6 (by decide) (fun c_3 => ?_) (fun c_3 => ?_)
  · have hf := (if_neg c_3).symm.trans hf
    refine lv_aload_n hx hb dX9_back_11 rfl (lv_at hl 0 rfl) ?_
    refine va_get (D := (g.1, g.2.1)) (ci := 9) (v := .ref (ad 11)) (C := RX9) (T := TX9) (N := 39) hx hb hts in_X9 hown hK hP 0 rfl rfl 11 (by decide) (hts _ q867) (fun _ h9 => h9) rfl dX9_back_12 ?_
    refine lv_iload_n hx hb dX9_back_15 rfl (lv_at hl 1 rfl) ?_
    obtain ⟨hg, hf⟩ := sm_gd_e hf
    refine va_zald hx hb hK hP 6 2 rfl rfl (sm_in hg) dX9_back_16 ?_
    refine lv_if_ne (tgt := 23) hx hb dX9_back_17 (by decide) (fun c_4 => ?_) (fun c_4 => ?_)
    · have hf := (if_neg c_4).symm.trans hf
      refine lv_iconst (v := 0) hx hb dX9_back_23 (by decide) ?_
      refine lv_istore_n (lv' := [(2, .int 0), (0, .ref (ad 0)), (1, .int a1)]) hx hb dX9_back_24 rfl hl (by decide) rfl (fun ls hl => ?_)
      have L_12 : ∀ (n : Nat) (x_5 : Int32) (S_6 : MS) (o_13 : Int32) (o_14 : MS) (H : Heap) (locs : List Loc) (ls : Array Slot), sm_lp (fun q => fX9_back_25 a1 q.1 q.2) n (x_5, S_6) = some (o_13, o_14) → PP g (WM g ad S_6) H → va_D (AM ad) (WM g ad S_6) → va_S (AM ad) s.heap H locs → lv_has ls 3 [(0, .ref (ad 0)), (1, .int a1), (2, .int x_5)] → (∀ (H : Heap) (locs : List Loc) (ls : Array Slot), PP g (WM g ad o_14) H → va_D (AM ad) (WM g ad o_14) → va_S (AM ad) s.heap H locs → lv_has ls 3 [(0, .ref (ad 0)), (1, .int a1), (2, .int o_13)] → W p l e rX9_back s m args below meth c H locs 0 0 Q (F0 m 54 ls [])) → W p l e rX9_back s m args below meth c H locs 0 0 Q (F0 m 25 ls []) := by
        intro n
        induction n with
        | zero =>
          intro _ _ _ _ _ _ _ hf
          cases hf
        | succ n ih_7 =>
          intro x_5 S_6 o_13 o_14 H locs ls hf hP hD hS hl kx_8
          obtain ⟨q, hf, hc_11⟩ := sm_bnd hf
          have hf : fX9_back_25 a1 x_5 S_6 = some q := hf
          unfold fX9_back_25 at hf
          refine lv_iload_n hx hb dX9_back_25 rfl (lv_at hl 2 rfl) ?_
          refine lv_bipush (v := 26) hx hb dX9_back_26 (by decide) ?_
          refine lv_icmp_ge (tgt := 54) hx hb dX9_back_28 (by decide) (fun c_15 => ?_) (fun c_15 => ?_)
          · have hf := (if_pos c_15).symm.trans hf
            cases hf
            have hc_11 : some (x_5, S_6) = some (o_13, o_14) := hc_11
            cases hc_11
            exact kx_8 _ _ _ hP hD hS (lv_sub hl [0, 1, 2] rfl)
          · have hf := (if_neg c_15).symm.trans hf
            refine lv_aload_n hx hb dX9_back_31 rfl (lv_at hl 0 rfl) ?_
            refine va_get (D := (g.1, g.2.1)) (ci := 9) (v := .ref (ad 7)) (C := RX9) (T := TX9) (N := 39) hx hb hts in_X9 hown hK hP 0 rfl rfl 7 (by decide) (hts _ q863) (fun _ h9 => h9) rfl dX9_back_32 ?_
            refine lv_iload_n hx hb dX9_back_35 rfl (lv_at hl 2 rfl) ?_
            refine lv_aload_n hx hb dX9_back_36 rfl (lv_at hl 0 rfl) ?_
            refine va_get (D := (g.1, g.2.1)) (ci := 9) (v := .ref (ad 10)) (C := RX9) (T := TX9) (N := 39) hx hb hts in_X9 hown hK hP 0 rfl rfl 10 (by decide) (hts _ q866) (fun _ h9 => h9) rfl dX9_back_37 ?_
            refine lv_bipush (v := 26) hx hb dX9_back_40 (by decide) ?_
            refine lv_iload_n hx hb dX9_back_42 rfl (lv_at hl 1 rfl) ?_
            refine lv_imul hx hb dX9_back_43 ?_
            refine lv_iload_n hx hb dX9_back_44 rfl (lv_at hl 2 rfl) ?_
            refine lv_iadd hx hb dX9_back_45 ?_
            obtain ⟨hg, hf⟩ := sm_gd_e hf
            refine va_iald hx hb hK hP 5 0 rfl rfl (sm_in hg) dX9_back_46 ?_
            obtain ⟨hg, hf⟩ := sm_gd_e hf
            refine va_iast (i := x_5) (x := S_6.2.1 10 ((26 * a1) + x_5).toNatClampNeg) hx hb hK hP hD hS 3 0 rfl rfl (sm_in hg) dX9_back_47 (fun H locs hP hD hS => ?_)
            obtain ⟨S_16, eS_16, hf⟩ := sm_lt_e hf
            have hP : PP g (WM g ad S_16) H := by rw [eS_16]; exact pmr7 hP
            have hD : va_D (AM ad) (WM g ad S_16) := by rw [eS_16]; exact dmr7 hD
            refine lv_iinc (v := x_5 + 1) (lv' := [(2, .int (x_5 + 1)), (0, .ref (ad 0)), (1, .int a1)]) hx hb dX9_back_48 hl (k := 2) rfl rfl (by decide) rfl (fun ls hl => ?_)
            refine lv_goto (tgt := 25) hx hb dX9_back_51 (by decide) ?_
            cases hf
            exact ih_7 _ _ _ _ _ _ _ hc_11 hP hD hS (lv_sub hl [1, 2, 0] rfl) kx_8
      obtain ⟨x_18, S_19, ho, hf⟩ := sm_b2_e hf
      refine L_12 FU 0 S x_18 S_19 s.heap [] ls ho hP hD hS (lv_sub hl [1, 2, 0] rfl) ?_
      intro H locs ls hP hD hS hl
      refine lv_aload_n hx hb dX9_back_54 rfl (lv_at hl 0 rfl) ?_
      refine lv_iconst (v := 0) hx hb dX9_back_55 (by decide) ?_
      refine va_put (D := (g.1, g.2.1)) (ci := 9) (v := .int 0) (ty := .int) (C := RX9) (T := TX9) (N := 39) hx hb hts in_X9 tyX9 tyX9_ok nmX9 hown hK hP hD hS 0 rfl rfl 9 (by decide) (hts _ q865) (fun _ h9 => h9) rfl (by decide +kernel) rfl rfl (Nat.le_of_ble_eq_true rfl) dX9_back_56 (fun H locs hP hD hS => ?_)
      obtain ⟨S_20, eS_20, hf⟩ := sm_lt_e hf
      have hP : PP g (WM g ad S_20) H := by rw [eS_20]; exact pmf9 hP
      have hD : va_D (AM ad) (WM g ad S_20) := by rw [eS_20]; exact dmf9 hD
      refine lv_aload_n hx hb dX9_back_59 rfl (lv_at hl 0 rfl) ?_
      refine va_get (D := (g.1, g.2.1)) (ci := 9) (v := .ref (ad 7)) (C := RX9) (T := TX9) (N := 39) hx hb hts in_X9 hown hK hP 0 rfl rfl 7 (by decide) (hts _ q863) (fun _ h9 => h9) rfl dX9_back_60 ?_
      refine lv_iconst (v := 0) hx hb dX9_back_63 (by decide) ?_
      refine va_iald hx hb hK hP 3 0 rfl rfl (sm_in rfl) dX9_back_64 ?_
      have hf := Option.some.inj hf
      rw [← hQ]
      have hf := Prod.mk.inj hf
      exact W.iret (v := S_20.2.1 7 0) hx hb hr (fun t ht hW => ⟨⟨_, (), rfl, hf.2, by rw [ht, ← hf.1]; exact hP, by rw [← hf.1]; exact hD⟩, hS.F ht⟩) hS.2.2 dX9_back_65
    · have hf := (if_pos c_4).symm.trans hf
      refine lv_bipush (v := (-2)) hx hb dX9_back_20 (by decide) ?_
      have hf := Option.some.inj hf
      rw [← hQ]
      have hf := Prod.mk.inj hf
      exact W.iret (v := (-2)) hx hb hr (fun t ht hW => ⟨⟨_, (), rfl, hf.2, by rw [ht, ← hf.1]; exact hP, by rw [← hf.1]; exact hD⟩, hS.F ht⟩) hS.2.2 dX9_back_22
  · have hf := (if_pos c_3).symm.trans hf
    refine lv_iconst (v := (-1)) hx hb dX9_back_9 (by decide) ?_
    have hf := Option.some.inj hf
    rw [← hQ]
    have hf := Prod.mk.inj hf
    exact W.iret (v := (-1)) hx hb hr (fun t ht hW => ⟨⟨_, (), rfl, hf.2, by rw [ht, ← hf.1]; exact hP, by rw [← hf.1]; exact hD⟩, hS.F ht⟩) hS.2.2 dX9_back_10
abbrev rX9_isClerk : Room := { frames := 1, cells := 0, slots := 0, locals := 22 }
set_option maxHeartbeats 4000000 in
theorem wX9_isClerk (l : Launch) (g : GG) (ad : Nat → Nat) (S : MS) (a1 : Int32) (rf : Int32) (hf : fX9_isClerk S a1 = rf) : Met l yX9_isClerk (ws_ yX9_isClerk cX9_isClerk 2 (some .boolean)) rX9_isClerk (va_Pc [.ref (ad 0), .int a1] (fun U => PP g (WM g ad S) U.heap ∧ EV g U)) (vp_Si (fun y => y = rf)) 0 0 (fun _ => False) := by
  refine sm_st (by decide) ?_
  intro p e s m args below meth c hx hb hr hlocks hml hown hnm hts hv
  obtain ⟨hargs, hP, hE⟩ := hv
  obtain ⟨hK, hN⟩ := id hE
  have hown : s.vm.findClass RX9 = some m.cls := hown
  refine sm_en _ (Nat.le_of_ble_eq_true rfl) hargs (fun ls hl => ?_)
  have hl : lv_has ls 2 [(0, .ref (ad 0)), (1, .int a1)] := hl
  generalize hQ : MQ below _ args s _ _ _ = Q
  unfold fX9_isClerk at hf
  refine lv_iload_n hx hb dX9_isClerk_0 rfl (lv_at hl 1 rfl) ?_
  refine lv_iconst (v := 0) hx hb dX9_isClerk_1 (by decide) ?_
  refine lv_aload_n hx hb dX9_isClerk_2 rfl (lv_at hl 0 rfl) ?_
  refine va_get (D := (g.1, g.2.1)) (ci := 9) (v := .int (S.1 5)) (C := RX9) (T := TX9) (N := 39) hx hb hts in_X9 hown hK hP 0 rfl rfl 5 (by decide) (hts _ q861) (fun _ h9 => h9) rfl dX9_isClerk_3 ?_
  refine lv_iconst (v := 1) hx hb dX9_isClerk_6 (by decide) ?_
  refine lv_isub hx hb dX9_isClerk_7 ?_
  refine vp_callSi (W.runS (As := [.int a1, .int 0, .int ((S.1 5) - 1)]) (rest := []) ⟨hx, hb, hml, hown, hts⟩ (wX9_in l a1 0 ((S.1 5) - 1) (fX9_in a1 0 ((S.1 5) - 1)) rfl) (va_cwS 3 hts (lw_S q979 q980 q70 q981) rfl rfl rfl (by decide +kernel) ⟨Nat.le_of_ble_eq_true rfl, Nat.le_of_ble_eq_true rfl⟩) (sm_ps) rfl rfl hl.1 rfl (lv_room (Nat.le_of_ble_eq_true rfl)) dX9_isClerk_8 ⟨Nat.le_of_ble_eq_true rfl, Nat.le_of_ble_eq_true rfl⟩) (fun r_2 er_1 => ?_)
  have er_1 := er_1.symm
  subst er_1
  rw [← hQ]
  exact W.zret (v := fX9_in a1 0 ((S.1 5) - 1)) hx hb hr (sm_bz_nar (bX9_in a1 0 ((S.1 5) - 1))) (fun t ht hW => ⟨_, rfl, hf, ht⟩) (fun _ h => by cases h) dX9_isClerk_11
abbrev rX9_brown : Room := { frames := 2, cells := 0, slots := 0, locals := 43 }
set_option maxHeartbeats 4000000 in
theorem wX9_brown (l : Launch) (g : GG) (ad : Nat → Nat) (S : MS) (a1 : Int32) (Sf : MS) (rf : Int32) (hf : fX9_brown S a1 = some (Sf, rf)) : Met l yX9_brown (ws_ yX9_brown cX9_brown 3 (some .int)) rX9_brown (va_Pc [.ref (ad 0), .int a1] (fun U => PP g (WM g ad S) U.heap ∧ EV g U ∧ va_D (AM ad) (WM g ad S))) (va_Qi (fun y (_ : Unit) => y = rf) (fun _ t => PP g (WM g ad Sf) t.heap ∧ va_D (AM ad) (WM g ad Sf)) (AM ad)) 0 0 (AM ad) := by
  refine sm_st (by decide) ?_
  intro p e s m args below meth c hx hb hr hlocks hml hown hnm hts hv
  obtain ⟨hargs, hP, hE, hD⟩ := hv
  obtain ⟨hK, hN⟩ := id hE
  have hS : va_S (AM ad) s.heap s.heap [] := va_S.rf
  have hown : s.vm.findClass RX9 = some m.cls := hown
  refine sm_en _ (Nat.le_of_ble_eq_true rfl) hargs (fun ls hl => ?_)
  have hl : lv_has ls 3 [(0, .ref (ad 0)), (1, .int a1)] := hl
  generalize hQ : MQ below _ args s _ _ _ = Q
  unfold fX9_brown at hf
  refine lv_aload_n hx hb dX9_brown_0 rfl (lv_at hl 0 rfl) ?_
  refine lv_iload_n hx hb dX9_brown_1 rfl (lv_at hl 1 rfl) ?_
  refine vp_callSi (W.runV (As := [.int a1]) (rest := []) ⟨hx, hb, hml, hown, hts⟩ (wX9_isClerk l g ad S a1 (fX9_isClerk S a1) rfl) (cwV 1 hts (lw_V q1037 q1039 qs31 q70 q1040) rfl rfl rfl (by decide +kernel) ⟨Nat.le_of_ble_eq_true rfl, Nat.le_of_ble_eq_true rfl⟩) (sm_pv hE hP (va_recv hK hP (ci := 9) (q0 := 0) rfl rfl)) rfl rfl hl.1 rfl (lv_room (Nat.le_of_ble_eq_true rfl)) dX9_brown_2 ⟨Nat.le_of_ble_eq_true rfl, Nat.le_of_ble_eq_true rfl⟩) (fun r_2 er_1 => ?_)
  have er_1 := er_1.symm
  subst er_1
  refine lv_if_ne (tgt := 10) hx hb dX9_brown_5 (by decide) (fun c_3 => ?_) (fun c_3 => ?_)
  · have hf := (if_neg c_3).symm.trans hf
    refine lv_aload_n hx hb dX9_brown_10 rfl (lv_at hl 0 rfl) ?_
    refine va_get (D := (g.1, g.2.1)) (ci := 9) (v := .ref (ad 7)) (C := RX9) (T := TX9) (N := 39) hx hb hts in_X9 hown hK hP 0 rfl rfl 7 (by decide) (hts _ q863) (fun _ h9 => h9) rfl dX9_brown_11 ?_
    refine lv_bipush (v := 20) hx hb dX9_brown_14 (by decide) ?_
    refine va_iald hx hb hK hP 3 0 rfl rfl (sm_in rfl) dX9_brown_16 ?_
    refine lv_if_eq (tgt := 41) hx hb dX9_brown_17 (by decide) (fun c_4 => ?_) (fun c_4 => ?_)
    · have hf := (if_pos c_4).symm.trans hf
      refine lv_bipush (v := (-2)) hx hb dX9_brown_41 (by decide) ?_
      have hf := Option.some.inj hf
      rw [← hQ]
      have hf := Prod.mk.inj hf
      exact W.iret (v := (-2)) hx hb hr (fun t ht hW => ⟨⟨_, (), rfl, hf.2, by rw [ht, ← hf.1]; exact hP, by rw [← hf.1]; exact hD⟩, hS.F ht⟩) hS.2.2 dX9_brown_43
    · have hf := (if_neg c_4).symm.trans hf
      refine lv_aload_n hx hb dX9_brown_20 rfl (lv_at hl 0 rfl) ?_
      refine va_get (D := (g.1, g.2.1)) (ci := 9) (v := .int (S.1 12)) (C := RX9) (T := TX9) (N := 39) hx hb hts in_X9 hown hK hP 0 rfl rfl 12 (by decide) (hts _ q868) (fun _ h9 => h9) rfl dX9_brown_21 ?_
      obtain ⟨q_9, hf, hq_6⟩ := sm_r_e hf
      suffices hj_5 : ∀ (ls : Array Slot), q_9 = Sum.inl () → lv_has ls 3 [(0, .ref (ad 0)), (1, .int a1)] → W p l e rX9_brown s m args below meth c s.heap [] 0 0 Q (F0 m 44 ls []) from by
        refine lv_if_le (tgt := 44) hx hb dX9_brown_24 (by decide) (fun c_7 => ?_) (fun c_7 => ?_)
        · have hf := (if_pos c_7).symm.trans hf
          cases hf
          exact hj_5 _ rfl (lv_sub hl [0, 1] rfl)
        · have hf := (if_neg c_7).symm.trans hf
          refine lv_aload_n hx hb dX9_brown_27 rfl (lv_at hl 0 rfl) ?_
          refine va_get (D := (g.1, g.2.1)) (ci := 9) (v := .int (S.1 13)) (C := RX9) (T := TX9) (N := 39) hx hb hts in_X9 hown hK hP 0 rfl rfl 13 (by decide) (hts _ q869) (fun _ h9 => h9) rfl dX9_brown_28 ?_
          refine lv_aload_n hx hb dX9_brown_31 rfl (lv_at hl 0 rfl) ?_
          refine va_get (D := (g.1, g.2.1)) (ci := 9) (v := .ref (ad 7)) (C := RX9) (T := TX9) (N := 39) hx hb hts in_X9 hown hK hP 0 rfl rfl 7 (by decide) (hts _ q863) (fun _ h9 => h9) rfl dX9_brown_32 ?_
          refine lv_bipush (v := 20) hx hb dX9_brown_35 (by decide) ?_
          refine va_iald hx hb hK hP 3 0 rfl rfl (sm_in rfl) dX9_brown_37 ?_
          refine lv_icmp_eq (tgt := 44) hx hb dX9_brown_38 (by decide) (fun c_8 => ?_) (fun c_8 => ?_)
          · have hf := (if_pos c_8).symm.trans hf
            cases hf
            exact hj_5 _ rfl (lv_sub hl [0, 1] rfl)
          · have hf := (if_neg c_8).symm.trans hf
            refine lv_bipush (v := (-2)) hx hb dX9_brown_41 (by decide) ?_
            cases hf
            have hf := hq_6
            dsimp only [Sum.elim_inr] at hf
            have hf := Option.some.inj hf
            rw [← hQ]
            have hf := Prod.mk.inj hf
            exact W.iret (v := (-2)) hx hb hr (fun t ht hW => ⟨⟨_, (), rfl, hf.2, by rw [ht, ← hf.1]; exact hP, by rw [← hf.1]; exact hD⟩, hS.F ht⟩) hS.2.2 dX9_brown_43
      intro ls eq_ hl
      subst eq_
      have hf := hq_6
      dsimp only [Sum.elim_inl, sm_u1] at hf
      refine lv_aload_n hx hb dX9_brown_44 rfl (lv_at hl 0 rfl) ?_
      refine va_get (D := (g.1, g.2.1)) (ci := 9) (v := .int (S.1 12)) (C := RX9) (T := TX9) (N := 39) hx hb hts in_X9 hown hK hP 0 rfl rfl 12 (by decide) (hts _ q868) (fun _ h9 => h9) rfl dX9_brown_45 ?_
      refine lv_iconst (v := 4) hx hb dX9_brown_48 (by decide) ?_
      refine lv_icmp_ne (tgt := 55) hx hb dX9_brown_49 (by decide) (fun c_10 => ?_) (fun c_10 => ?_)
      · have hf := (if_neg c_10).symm.trans hf
        refine lv_aload_n hx hb dX9_brown_55 rfl (lv_at hl 0 rfl) ?_
        refine lv_aload_n hx hb dX9_brown_56 rfl (lv_at hl 0 rfl) ?_
        refine va_get (D := (g.1, g.2.1)) (ci := 9) (v := .ref (ad 7)) (C := RX9) (T := TX9) (N := 39) hx hb hts in_X9 hown hK hP 0 rfl rfl 7 (by decide) (hts _ q863) (fun _ h9 => h9) rfl dX9_brown_57 ?_
        refine lv_bipush (v := 20) hx hb dX9_brown_60 (by decide) ?_
        refine va_iald hx hb hK hP 3 0 rfl rfl (sm_in rfl) dX9_brown_62 ?_
        refine va_put (D := (g.1, g.2.1)) (ci := 9) (v := .int (S.2.1 7 20)) (ty := .int) (C := RX9) (T := TX9) (N := 39) hx hb hts in_X9 tyX9 tyX9_ok nmX9 hown hK hP hD hS 0 rfl rfl 13 (by decide) (hts _ q869) (fun _ h9 => h9) rfl (by decide +kernel) rfl rfl (Nat.le_of_ble_eq_true rfl) dX9_brown_63 (fun H locs hP hD hS => ?_)
        obtain ⟨S_11, eS_11, hf⟩ := sm_lt_e hf
        have hP : PP g (WM g ad S_11) H := by rw [eS_11]; exact pmf13 hP
        have hD : va_D (AM ad) (WM g ad S_11) := by rw [eS_11]; exact dmf13 hD
        refine lv_aload_n hx hb dX9_brown_66 rfl (lv_at hl 0 rfl) ?_
        refine va_get (D := (g.1, g.2.1)) (ci := 9) (v := .ref (ad 14)) (C := RX9) (T := TX9) (N := 39) hx hb hts in_X9 hown hK hP 0 rfl rfl 14 (by decide) (hts _ q870) (fun _ h9 => h9) rfl dX9_brown_67 ?_
        refine lv_aload_n hx hb dX9_brown_70 rfl (lv_at hl 0 rfl) ?_
        refine va_get (D := (g.1, g.2.1)) (ci := 9) (v := .int (S_11.1 12)) (C := RX9) (T := TX9) (N := 39) hx hb hts in_X9 hown hK hP 0 rfl rfl 12 (by decide) (hts _ q868) (fun _ h9 => h9) rfl dX9_brown_71 ?_
        refine lv_iload_n hx hb dX9_brown_74 rfl (lv_at hl 1 rfl) ?_
        obtain ⟨hg, hf⟩ := sm_gd_e hf
        refine va_iast (i := S_11.1 12) (x := a1) hx hb hK hP hD hS 7 0 rfl rfl (sm_in hg) dX9_brown_75 (fun H locs hP hD hS => ?_)
        obtain ⟨S_12, eS_12, hf⟩ := sm_lt_e hf
        have hP : PP g (WM g ad S_12) H := by rw [eS_12]; exact pmr14 hP
        have hD : va_D (AM ad) (WM g ad S_12) := by rw [eS_12]; exact dmr14 hD
        refine lv_iconst (v := 0) hx hb dX9_brown_76 (by decide) ?_
        refine lv_istore_n (lv' := [(2, .int 0), (0, .ref (ad 0)), (1, .int a1)]) hx hb dX9_brown_77 rfl hl (by decide) rfl (fun ls hl => ?_)
        have L_20 : ∀ (n : Nat) (x_13 : Int32) (S_14 : MS) (o_21 : Int32) (o_22 : MS) (H : Heap) (locs : List Loc) (ls : Array Slot), sm_lp (fun q => fX9_brown_78 q.1 q.2) n (x_13, S_14) = some (o_21, o_22) → PP g (WM g ad S_14) H → va_D (AM ad) (WM g ad S_14) → va_S (AM ad) s.heap H locs → lv_has ls 3 [(0, .ref (ad 0)), (1, .int a1), (2, .int x_13)] → (∀ (H : Heap) (locs : List Loc) (ls : Array Slot), PP g (WM g ad o_22) H → va_D (AM ad) (WM g ad o_22) → va_S (AM ad) s.heap H locs → lv_has ls 3 [(0, .ref (ad 0)), (1, .int a1), (2, .int o_21)] → W p l e rX9_brown s m args below meth c H locs 0 0 Q (F0 m 114 ls [])) → W p l e rX9_brown s m args below meth c H locs 0 0 Q (F0 m 78 ls []) := by
          intro n
          induction n with
          | zero =>
            intro _ _ _ _ _ _ _ hf
            cases hf
          | succ n ih_15 =>
            intro x_13 S_14 o_21 o_22 H locs ls hf hP hD hS hl kx_16
            obtain ⟨q, hf, hc_19⟩ := sm_bnd hf
            have hf : fX9_brown_78 x_13 S_14 = some q := hf
            unfold fX9_brown_78 at hf
            refine lv_iload_n hx hb dX9_brown_78 rfl (lv_at hl 2 rfl) ?_
            refine lv_aload_n hx hb dX9_brown_79 rfl (lv_at hl 0 rfl) ?_
            refine va_get (D := (g.1, g.2.1)) (ci := 9) (v := .int (S_14.1 13)) (C := RX9) (T := TX9) (N := 39) hx hb hts in_X9 hown hK hP 0 rfl rfl 13 (by decide) (hts _ q869) (fun _ h9 => h9) rfl dX9_brown_80 ?_
            refine lv_icmp_ge (tgt := 114) hx hb dX9_brown_83 (by decide) (fun c_23 => ?_) (fun c_23 => ?_)
            · have hf := (if_pos c_23).symm.trans hf
              cases hf
              have hc_19 : some (x_13, S_14) = some (o_21, o_22) := hc_19
              cases hc_19
              exact kx_16 _ _ _ hP hD hS (lv_sub hl [0, 1, 2] rfl)
            · have hf := (if_neg c_23).symm.trans hf
              refine lv_aload_n hx hb dX9_brown_86 rfl (lv_at hl 0 rfl) ?_
              refine va_get (D := (g.1, g.2.1)) (ci := 9) (v := .ref (ad 15)) (C := RX9) (T := TX9) (N := 39) hx hb hts in_X9 hown hK hP 0 rfl rfl 15 (by decide) (hts _ q871) (fun _ h9 => h9) rfl dX9_brown_87 ?_
              refine lv_iconst (v := 5) hx hb dX9_brown_90 (by decide) ?_
              refine lv_aload_n hx hb dX9_brown_91 rfl (lv_at hl 0 rfl) ?_
              refine va_get (D := (g.1, g.2.1)) (ci := 9) (v := .int (S_14.1 12)) (C := RX9) (T := TX9) (N := 39) hx hb hts in_X9 hown hK hP 0 rfl rfl 12 (by decide) (hts _ q868) (fun _ h9 => h9) rfl dX9_brown_92 ?_
              refine lv_imul hx hb dX9_brown_95 ?_
              refine lv_iload_n hx hb dX9_brown_96 rfl (lv_at hl 2 rfl) ?_
              refine lv_iadd hx hb dX9_brown_97 ?_
              refine lv_aload_n hx hb dX9_brown_98 rfl (lv_at hl 0 rfl) ?_
              refine va_get (D := (g.1, g.2.1)) (ci := 9) (v := .ref (ad 7)) (C := RX9) (T := TX9) (N := 39) hx hb hts in_X9 hown hK hP 0 rfl rfl 7 (by decide) (hts _ q863) (fun _ h9 => h9) rfl dX9_brown_99 ?_
              refine lv_bipush (v := 21) hx hb dX9_brown_102 (by decide) ?_
              refine lv_iload_n hx hb dX9_brown_104 rfl (lv_at hl 2 rfl) ?_
              refine lv_iadd hx hb dX9_brown_105 ?_
              obtain ⟨hg, hf⟩ := sm_gd_e hf
              refine va_iald hx hb hK hP 3 0 rfl rfl (sm_in hg) dX9_brown_106 ?_
              obtain ⟨hg, hf⟩ := sm_gd_e hf
              refine va_iast (i := (5 * (S_14.1 12)) + x_13) (x := S_14.2.1 7 (21 + x_13).toNatClampNeg) hx hb hK hP hD hS 8 0 rfl rfl (sm_in hg) dX9_brown_107 (fun H locs hP hD hS => ?_)
              obtain ⟨S_24, eS_24, hf⟩ := sm_lt_e hf
              have hP : PP g (WM g ad S_24) H := by rw [eS_24]; exact pmr15 hP
              have hD : va_D (AM ad) (WM g ad S_24) := by rw [eS_24]; exact dmr15 hD
              refine lv_iinc (v := x_13 + 1) (lv' := [(2, .int (x_13 + 1)), (0, .ref (ad 0)), (1, .int a1)]) hx hb dX9_brown_108 hl (k := 2) rfl rfl (by decide) rfl (fun ls hl => ?_)
              refine lv_goto (tgt := 78) hx hb dX9_brown_111 (by decide) ?_
              cases hf
              exact ih_15 _ _ _ _ _ _ _ hc_19 hP hD hS (lv_sub hl [1, 2, 0] rfl) kx_16
        obtain ⟨x_26, S_27, ho, hf⟩ := sm_b2_e hf
        refine L_20 FU 0 S_12 x_26 S_27 H locs ls ho hP hD hS (lv_sub hl [1, 2, 0] rfl) ?_
        intro H locs ls hP hD hS hl
        refine lv_aload_n hx hb dX9_brown_114 rfl (lv_at hl 0 rfl) ?_
        refine lv_dup hx hb dX9_brown_115 rfl ?_
        refine va_get (D := (g.1, g.2.1)) (ci := 9) (v := .int (S_27.1 12)) (C := RX9) (T := TX9) (N := 39) hx hb hts in_X9 hown hK hP 0 rfl rfl 12 (by decide) (hts _ q868) (fun _ h9 => h9) rfl dX9_brown_116 ?_
        refine lv_iconst (v := 1) hx hb dX9_brown_119 (by decide) ?_
        refine lv_iadd hx hb dX9_brown_120 ?_
        refine va_put (D := (g.1, g.2.1)) (ci := 9) (v := .int ((S_27.1 12) + 1)) (ty := .int) (C := RX9) (T := TX9) (N := 39) hx hb hts in_X9 tyX9 tyX9_ok nmX9 hown hK hP hD hS 0 rfl rfl 12 (by decide) (hts _ q868) (fun _ h9 => h9) rfl (by decide +kernel) rfl rfl (Nat.le_of_ble_eq_true rfl) dX9_brown_121 (fun H locs hP hD hS => ?_)
        obtain ⟨S_28, eS_28, hf⟩ := sm_lt_e hf
        have hP : PP g (WM g ad S_28) H := by rw [eS_28]; exact pmf12 hP
        have hD : va_D (AM ad) (WM g ad S_28) := by rw [eS_28]; exact dmf12 hD
        refine lv_aload_n hx hb dX9_brown_124 rfl (lv_at hl 0 rfl) ?_
        refine va_get (D := (g.1, g.2.1)) (ci := 9) (v := .int (S_28.1 12)) (C := RX9) (T := TX9) (N := 39) hx hb hts in_X9 hown hK hP 0 rfl rfl 12 (by decide) (hts _ q868) (fun _ h9 => h9) rfl dX9_brown_125 ?_
        have hf := Option.some.inj hf
        rw [← hQ]
        have hf := Prod.mk.inj hf
        exact W.iret (v := S_28.1 12) hx hb hr (fun t ht hW => ⟨⟨_, (), rfl, hf.2, by rw [ht, ← hf.1]; exact hP, by rw [← hf.1]; exact hD⟩, hS.F ht⟩) hS.2.2 dX9_brown_128
      · have hf := (if_pos c_10).symm.trans hf
        refine lv_bipush (v := (-3)) hx hb dX9_brown_52 (by decide) ?_
        have hf := Option.some.inj hf
        rw [← hQ]
        have hf := Prod.mk.inj hf
        exact W.iret (v := (-3)) hx hb hr (fun t ht hW => ⟨⟨_, (), rfl, hf.2, by rw [ht, ← hf.1]; exact hP, by rw [← hf.1]; exact hD⟩, hS.F ht⟩) hS.2.2 dX9_brown_54
  · have hf := (if_pos c_3).symm.trans hf
    refine lv_iconst (v := (-1)) hx hb dX9_brown_8 (by decide) ?_
    have hf := Option.some.inj hf
    rw [← hQ]
    have hf := Prod.mk.inj hf
    exact W.iret (v := (-1)) hx hb hr (fun t ht hW => ⟨⟨_, (), rfl, hf.2, by rw [ht, ← hf.1]; exact hP, by rw [← hf.1]; exact hD⟩, hS.F ht⟩) hS.2.2 dX9_brown_9
abbrev rX9_clerk : Room := { frames := 2, cells := 0, slots := 0, locals := 43 }
set_option maxHeartbeats 4000000 in
theorem wX9_clerk (l : Launch) (g : GG) (ad : Nat → Nat) (S : MS) (a1 : Int32) (a2 : Int32) (rf : Int32) (hf : fX9_clerk S a1 a2 = some rf) : Met l yX9_clerk (ws_ yX9_clerk cX9_clerk 3 (some .int)) rX9_clerk (va_Pc [.ref (ad 0), .int a1, .int a2] (fun U => PP g (WM g ad S) U.heap ∧ EV g U)) (vp_Si (fun y => y = rf)) 0 0 (fun _ => False) := by
  refine sm_st (by decide) ?_
  intro p e s m args below meth c hx hb hr hlocks hml hown hnm hts hv
  obtain ⟨hargs, hP, hE⟩ := hv
  obtain ⟨hK, hN⟩ := id hE
  have hown : s.vm.findClass RX9 = some m.cls := hown
  refine sm_en _ (Nat.le_of_ble_eq_true rfl) hargs (fun ls hl => ?_)
  have hl : lv_has ls 3 [(0, .ref (ad 0)), (1, .int a1), (2, .int a2)] := hl
  generalize hQ : MQ below _ args s _ _ _ = Q
  unfold fX9_clerk at hf
  refine lv_aload_n hx hb dX9_clerk_0 rfl (lv_at hl 0 rfl) ?_
  refine lv_iload_n hx hb dX9_clerk_1 rfl (lv_at hl 1 rfl) ?_
  refine vp_callSi (W.runV (As := [.int a1]) (rest := []) ⟨hx, hb, hml, hown, hts⟩ (wX9_isClerk l g ad S a1 (fX9_isClerk S a1) rfl) (cwV 1 hts (lw_V q1037 q1039 qs31 q70 q1040) rfl rfl rfl (by decide +kernel) ⟨Nat.le_of_ble_eq_true rfl, Nat.le_of_ble_eq_true rfl⟩) (sm_pv hE hP (va_recv hK hP (ci := 9) (q0 := 0) rfl rfl)) rfl rfl hl.1 rfl (lv_room (Nat.le_of_ble_eq_true rfl)) dX9_clerk_2 ⟨Nat.le_of_ble_eq_true rfl, Nat.le_of_ble_eq_true rfl⟩) (fun r_2 er_1 => ?_)
  have er_1 := er_1.symm
  subst er_1
  refine lv_if_eq (tgt := 30) hx hb dX9_clerk_5 (by decide) (fun c_3 => ?_) (fun c_3 => ?_)
  · have hf := (if_pos c_3).symm.trans hf
    refine lv_iconst (v := (-1)) hx hb dX9_clerk_30 (by decide) ?_
    have hf := Option.some.inj hf
    rw [← hQ]
    exact W.iret (v := (-1)) hx hb hr (fun t ht hW => ⟨_, rfl, hf, ht⟩) (fun _ h => by cases h) dX9_clerk_31
  · have hf := (if_neg c_3).symm.trans hf
    refine lv_iload_n hx hb dX9_clerk_8 rfl (lv_at hl 2 rfl) ?_
    refine lv_iconst (v := 0) hx hb dX9_clerk_9 (by decide) ?_
    refine lv_iconst (v := 2) hx hb dX9_clerk_10 (by decide) ?_
    refine vp_callSi (W.runS (As := [.int a2, .int 0, .int 2]) (rest := []) ⟨hx, hb, hml, hown, hts⟩ (wX9_in l a2 0 2 (fX9_in a2 0 2) rfl) (va_cwS 3 hts (lw_S q979 q980 q70 q981) rfl rfl rfl (by decide +kernel) ⟨Nat.le_of_ble_eq_true rfl, Nat.le_of_ble_eq_true rfl⟩) (sm_ps) rfl rfl hl.1 rfl (lv_room (Nat.le_of_ble_eq_true rfl)) dX9_clerk_11 ⟨Nat.le_of_ble_eq_true rfl, Nat.le_of_ble_eq_true rfl⟩) (fun r_5 er_4 => ?_)
    have er_4 := er_4.symm
    subst er_4
    refine lv_if_eq (tgt := 30) hx hb dX9_clerk_14 (by decide) (fun c_6 => ?_) (fun c_6 => ?_)
    · have hf := (if_pos c_6).symm.trans hf
      refine lv_iconst (v := (-1)) hx hb dX9_clerk_30 (by decide) ?_
      have hf := Option.some.inj hf
      rw [← hQ]
      exact W.iret (v := (-1)) hx hb hr (fun t ht hW => ⟨_, rfl, hf, ht⟩) (fun _ h => by cases h) dX9_clerk_31
    · have hf := (if_neg c_6).symm.trans hf
      refine lv_aload_n hx hb dX9_clerk_17 rfl (lv_at hl 0 rfl) ?_
      refine va_get (D := (g.1, g.2.1)) (ci := 9) (v := .ref (ad 6)) (C := RX9) (T := TX9) (N := 39) hx hb hts in_X9 hown hK hP 0 rfl rfl 6 (by decide) (hts _ q862) (fun _ h9 => h9) rfl dX9_clerk_18 ?_
      refine lv_iconst (v := 3) hx hb dX9_clerk_21 (by decide) ?_
      refine lv_iload_n hx hb dX9_clerk_22 rfl (lv_at hl 1 rfl) ?_
      refine lv_imul hx hb dX9_clerk_23 ?_
      refine lv_iload_n hx hb dX9_clerk_24 rfl (lv_at hl 2 rfl) ?_
      refine lv_iadd hx hb dX9_clerk_25 ?_
      obtain ⟨hg, hf⟩ := sm_gd_e hf
      refine va_iald hx hb hK hP 2 0 rfl rfl (sm_in hg) dX9_clerk_26 ?_
      refine lv_goto (tgt := 31) hx hb dX9_clerk_27 (by decide) ?_
      have hf := Option.some.inj hf
      rw [← hQ]
      exact W.iret (v := S.2.1 6 ((3 * a1) + a2).toNatClampNeg) hx hb hr (fun t ht hW => ⟨_, rfl, hf, ht⟩) (fun _ h => by cases h) dX9_clerk_31
abbrev rX9_isCopied : Room := { frames := 1, cells := 0, slots := 0, locals := 22 }
set_option maxHeartbeats 4000000 in
theorem wX9_isCopied (l : Launch) (g : GG) (ad : Nat → Nat) (S : MS) (a1 : Int32) (rf : Int32) (hf : fX9_isCopied S a1 = rf) : Met l yX9_isCopied (ws_ yX9_isCopied cX9_isCopied 2 (some .boolean)) rX9_isCopied (va_Pc [.ref (ad 0), .int a1] (fun U => PP g (WM g ad S) U.heap ∧ EV g U)) (vp_Si (fun y => y = rf)) 0 0 (fun _ => False) := by
  refine sm_st (by decide) ?_
  intro p e s m args below meth c hx hb hr hlocks hml hown hnm hts hv
  obtain ⟨hargs, hP, hE⟩ := hv
  obtain ⟨hK, hN⟩ := id hE
  have hown : s.vm.findClass RX9 = some m.cls := hown
  refine sm_en _ (Nat.le_of_ble_eq_true rfl) hargs (fun ls hl => ?_)
  have hl : lv_has ls 2 [(0, .ref (ad 0)), (1, .int a1)] := hl
  generalize hQ : MQ below _ args s _ _ _ = Q
  unfold fX9_isCopied at hf
  refine lv_aload_n hx hb dX9_isCopied_0 rfl (lv_at hl 0 rfl) ?_
  refine va_get (D := (g.1, g.2.1)) (ci := 9) (v := .int (S.1 12)) (C := RX9) (T := TX9) (N := 39) hx hb hts in_X9 hown hK hP 0 rfl rfl 12 (by decide) (hts _ q868) (fun _ h9 => h9) rfl dX9_isCopied_1 ?_
  refine lv_if_le (tgt := 25) hx hb dX9_isCopied_4 (by decide) (fun c_1 => ?_) (fun c_1 => ?_)
  · have hf := (if_pos c_1).symm.trans hf
    refine lv_iconst (v := 0) hx hb dX9_isCopied_25 (by decide) ?_
    rw [← hQ]
    exact W.zret (v := 0) hx hb hr rfl (fun t ht hW => ⟨_, rfl, hf, ht⟩) (fun _ h => by cases h) dX9_isCopied_26
  · have hf := (if_neg c_1).symm.trans hf
    refine lv_iload_n hx hb dX9_isCopied_7 rfl (lv_at hl 1 rfl) ?_
    refine lv_iconst (v := 0) hx hb dX9_isCopied_8 (by decide) ?_
    refine lv_aload_n hx hb dX9_isCopied_9 rfl (lv_at hl 0 rfl) ?_
    refine va_get (D := (g.1, g.2.1)) (ci := 9) (v := .int (S.1 13)) (C := RX9) (T := TX9) (N := 39) hx hb hts in_X9 hown hK hP 0 rfl rfl 13 (by decide) (hts _ q869) (fun _ h9 => h9) rfl dX9_isCopied_10 ?_
    refine lv_iconst (v := 1) hx hb dX9_isCopied_13 (by decide) ?_
    refine lv_isub hx hb dX9_isCopied_14 ?_
    refine vp_callSi (W.runS (As := [.int a1, .int 0, .int ((S.1 13) - 1)]) (rest := []) ⟨hx, hb, hml, hown, hts⟩ (wX9_in l a1 0 ((S.1 13) - 1) (fX9_in a1 0 ((S.1 13) - 1)) rfl) (va_cwS 3 hts (lw_S q979 q980 q70 q981) rfl rfl rfl (by decide +kernel) ⟨Nat.le_of_ble_eq_true rfl, Nat.le_of_ble_eq_true rfl⟩) (sm_ps) rfl rfl hl.1 rfl (lv_room (Nat.le_of_ble_eq_true rfl)) dX9_isCopied_15 ⟨Nat.le_of_ble_eq_true rfl, Nat.le_of_ble_eq_true rfl⟩) (fun r_3 er_2 => ?_)
    have er_2 := er_2.symm
    subst er_2
    refine lv_if_eq (tgt := 25) hx hb dX9_isCopied_18 (by decide) (fun c_4 => ?_) (fun c_4 => ?_)
    · have hf := (if_pos c_4).symm.trans hf
      refine lv_iconst (v := 0) hx hb dX9_isCopied_25 (by decide) ?_
      rw [← hQ]
      exact W.zret (v := 0) hx hb hr rfl (fun t ht hW => ⟨_, rfl, hf, ht⟩) (fun _ h => by cases h) dX9_isCopied_26
    · have hf := (if_neg c_4).symm.trans hf
      refine lv_iconst (v := 1) hx hb dX9_isCopied_21 (by decide) ?_
      refine lv_goto (tgt := 26) hx hb dX9_isCopied_22 (by decide) ?_
      rw [← hQ]
      exact W.zret (v := 1) hx hb hr rfl (fun t ht hW => ⟨_, rfl, hf, ht⟩) (fun _ h => by cases h) dX9_isCopied_26
abbrev rX9_isLetter_19 : Room := { frames := 0, cells := 0, slots := 0, locals := 0 }
set_option maxHeartbeats 4000000 in
theorem wX9_isLetter_19 (l : Launch) (g : GG) (ad : Nat → Nat) (S : MS) (rf : Int32) (hf : fX9_isLetter_19 S = some rf) : Met l yX9_isLetter (ws_ yX9_isLetter cX9_isLetter 4 (some .boolean)) rX9_isLetter_19 (va_Pc [.ref (ad 0), .ref (ad 36)] (fun U => PP g (WM g ad S) U.heap ∧ EV g U)) (vp_Si (fun y => y = rf)) 0 0 (fun _ => False) := by
  refine sm_st (by decide) ?_
  intro p e s m args below meth c hx hb hr hlocks hml hown hnm hts hv
  obtain ⟨hargs, hP, hE⟩ := hv
  obtain ⟨hK, hN⟩ := id hE
  have hown : s.vm.findClass RX9 = some m.cls := hown
  refine sm_en _ (Nat.le_of_ble_eq_true rfl) hargs (fun ls hl => ?_)
  have hl : lv_has ls 4 [(0, .ref (ad 0)), (1, .ref (ad 36))] := hl
  generalize hQ : MQ below _ args s _ _ _ = Q
  unfold fX9_isLetter_19 at hf
  refine lv_aload_n hx hb dX9_isLetter_0 rfl (lv_at hl 0 rfl) ?_
  refine va_get (D := (g.1, g.2.1)) (ci := 9) (v := .int (S.1 37)) (C := RX9) (T := TX9) (N := 39) hx hb hts in_X9 hown hK hP 0 rfl rfl 37 (by decide) (hts _ q893) (fun _ h9 => h9) rfl dX9_isLetter_1 ?_
  refine lv_aload_n hx hb dX9_isLetter_4 rfl (lv_at hl 0 rfl) ?_
  refine va_get (D := (g.1, g.2.1)) (ci := 9) (v := .ref (ad 7)) (C := RX9) (T := TX9) (N := 39) hx hb hts in_X9 hown hK hP 0 rfl rfl 7 (by decide) (hts _ q863) (fun _ h9 => h9) rfl dX9_isLetter_5 ?_
  refine lv_bipush (v := 20) hx hb dX9_isLetter_8 (by decide) ?_
  refine va_iald hx hb hK hP 3 0 rfl rfl (sm_in rfl) dX9_isLetter_10 ?_
  obtain ⟨x_1, hf, hf0⟩ := sm_b1_e hf
  suffices hj_2 : ∀ (ls : Array Slot), lv_has ls 4 [(0, .ref (ad 0)), (1, .ref (ad 36))] → W p l e rX9_isLetter_19 s m args below meth c s.heap [] 0 0 Q (F0 m 19 ls [.int x_1]) from by
    refine lv_icmp_ne (tgt := 18) hx hb dX9_isLetter_11 (by decide) (fun c_3 => ?_) (fun c_3 => ?_)
    · have hf := (if_neg c_3).symm.trans hf
      refine lv_iconst (v := 0) hx hb dX9_isLetter_18 (by decide) ?_
      cases hf
      exact hj_2 _ (lv_sub hl [0, 1] rfl)
    · have hf := (if_pos c_3).symm.trans hf
      refine lv_iconst (v := 1) hx hb dX9_isLetter_14 (by decide) ?_
      refine lv_goto (tgt := 19) hx hb dX9_isLetter_15 (by decide) ?_
      cases hf
      exact hj_2 _ (lv_sub hl [0, 1] rfl)
  intro ls hl
  have hf := hf0
  refine lv_istore_n (lv' := [(2, .int x_1), (0, .ref (ad 0)), (1, .ref (ad 36))]) hx hb dX9_isLetter_19 rfl hl (by decide) rfl (fun ls hl => ?_)
  refine lv_iconst (v := 0) hx hb dX9_isLetter_20 (by decide) ?_
  refine lv_istore_n (lv' := [(3, .int 0), (2, .int x_1), (0, .ref (ad 0)), (1, .ref (ad 36))]) hx hb dX9_isLetter_21 rfl hl (by decide) rfl (fun ls hl => ?_)
  have L_11 : ∀ (n : Nat) (x_4 : Int32) (x_5 : Int32) (o_12 : Int32) (o_13 : Int32) (ls : Array Slot), sm_lp (fun q => fX9_isLetter_19_22 S q.1 q.2) n (x_4, x_5) = some (o_12, o_13) → lv_has ls 4 [(0, .ref (ad 0)), (1, .ref (ad 36)), (3, .int x_4), (2, .int x_5)] → (∀ (ls : Array Slot), lv_has ls 4 [(0, .ref (ad 0)), (1, .ref (ad 36)), (3, .int o_12), (2, .int o_13)] → W p l e rX9_isLetter_19 s m args below meth c s.heap [] 0 0 Q (F0 m 61 ls [])) → W p l e rX9_isLetter_19 s m args below meth c s.heap [] 0 0 Q (F0 m 22 ls []) := by
    intro n
    induction n with
    | zero =>
      intro _ _ _ _ _ hf
      cases hf
    | succ n ih_6 =>
      intro x_4 x_5 o_12 o_13 ls hf hl kx_7
      obtain ⟨q, hf, hc_10⟩ := sm_bnd hf
      have hf : fX9_isLetter_19_22 S x_4 x_5 = some q := hf
      unfold fX9_isLetter_19_22 at hf
      refine lv_iload_n hx hb dX9_isLetter_22 rfl (lv_at hl 2 rfl) ?_
      refine lv_aload_n hx hb dX9_isLetter_23 rfl (lv_at hl 0 rfl) ?_
      refine va_get (D := (g.1, g.2.1)) (ci := 9) (v := .int (S.1 37)) (C := RX9) (T := TX9) (N := 39) hx hb hts in_X9 hown hK hP 0 rfl rfl 37 (by decide) (hts _ q893) (fun _ h9 => h9) rfl dX9_isLetter_24 ?_
      refine lv_icmp_ge (tgt := 61) hx hb dX9_isLetter_27 (by decide) (fun c_14 => ?_) (fun c_14 => ?_)
      · have hf := (if_pos c_14).symm.trans hf
        cases hf
        have hc_10 : some (x_4, x_5) = some (o_12, o_13) := hc_10
        cases hc_10
        exact kx_7 _ (lv_sub hl [0, 1, 2, 3] rfl)
      · have hf := (if_neg c_14).symm.trans hf
        refine lv_iload_n hx hb dX9_isLetter_30 rfl (lv_at hl 3 rfl) ?_
        refine lv_if_eq (tgt := 53) hx hb dX9_isLetter_31 (by decide) (fun c_15 => ?_) (fun c_15 => ?_)
        · have hf := (if_pos c_15).symm.trans hf
          refine lv_iconst (v := 0) hx hb dX9_isLetter_53 (by decide) ?_
          refine lv_istore_n (lv' := [(2, .int 0), (0, .ref (ad 0)), (1, .ref (ad 36)), (3, .int x_4)]) hx hb dX9_isLetter_54 rfl hl (by decide) rfl (fun ls hl => ?_)
          refine lv_iinc (v := x_4 + 1) (lv' := [(3, .int (x_4 + 1)), (2, .int 0), (0, .ref (ad 0)), (1, .ref (ad 36))]) hx hb dX9_isLetter_55 hl (k := 3) rfl rfl (by decide) rfl (fun ls hl => ?_)
          refine lv_goto (tgt := 22) hx hb dX9_isLetter_58 (by decide) ?_
          cases hf
          exact ih_6 _ _ _ _ _ hc_10 (lv_sub hl [2, 3, 0, 1] rfl) kx_7
        · have hf := (if_neg c_15).symm.trans hf
          refine lv_aload_n hx hb dX9_isLetter_34 rfl (lv_at hl 1 rfl) ?_
          refine lv_iload_n hx hb dX9_isLetter_35 rfl (lv_at hl 2 rfl) ?_
          obtain ⟨hg, hf⟩ := sm_gd_e hf
          refine va_iald hx hb hK hP 19 0 rfl rfl (sm_in hg) dX9_isLetter_36 ?_
          refine lv_aload_n hx hb dX9_isLetter_37 rfl (lv_at hl 0 rfl) ?_
          refine va_get (D := (g.1, g.2.1)) (ci := 9) (v := .ref (ad 7)) (C := RX9) (T := TX9) (N := 39) hx hb hts in_X9 hown hK hP 0 rfl rfl 7 (by decide) (hts _ q863) (fun _ h9 => h9) rfl dX9_isLetter_38 ?_
          refine lv_bipush (v := 21) hx hb dX9_isLetter_41 (by decide) ?_
          refine lv_iload_n hx hb dX9_isLetter_43 rfl (lv_at hl 2 rfl) ?_
          refine lv_iadd hx hb dX9_isLetter_44 ?_
          obtain ⟨hg, hf⟩ := sm_gd_e hf
          refine va_iald hx hb hK hP 3 0 rfl rfl (sm_in hg) dX9_isLetter_45 ?_
          refine lv_icmp_ne (tgt := 53) hx hb dX9_isLetter_46 (by decide) (fun c_16 => ?_) (fun c_16 => ?_)
          · have hf := (if_neg c_16).symm.trans hf
            refine lv_iconst (v := 0) hx hb dX9_isLetter_53 (by decide) ?_
            refine lv_istore_n (lv' := [(2, .int 0), (0, .ref (ad 0)), (1, .ref (ad 36)), (3, .int x_4)]) hx hb dX9_isLetter_54 rfl hl (by decide) rfl (fun ls hl => ?_)
            refine lv_iinc (v := x_4 + 1) (lv' := [(3, .int (x_4 + 1)), (2, .int 0), (0, .ref (ad 0)), (1, .ref (ad 36))]) hx hb dX9_isLetter_55 hl (k := 3) rfl rfl (by decide) rfl (fun ls hl => ?_)
            refine lv_goto (tgt := 22) hx hb dX9_isLetter_58 (by decide) ?_
            cases hf
            exact ih_6 _ _ _ _ _ hc_10 (lv_sub hl [2, 3, 0, 1] rfl) kx_7
          · have hf := (if_pos c_16).symm.trans hf
            refine lv_iconst (v := 1) hx hb dX9_isLetter_49 (by decide) ?_
            refine lv_goto (tgt := 54) hx hb dX9_isLetter_50 (by decide) ?_
            refine lv_istore_n (lv' := [(2, .int 1), (0, .ref (ad 0)), (1, .ref (ad 36)), (3, .int x_4)]) hx hb dX9_isLetter_54 rfl hl (by decide) rfl (fun ls hl => ?_)
            refine lv_iinc (v := x_4 + 1) (lv' := [(3, .int (x_4 + 1)), (2, .int 1), (0, .ref (ad 0)), (1, .ref (ad 36))]) hx hb dX9_isLetter_55 hl (k := 3) rfl rfl (by decide) rfl (fun ls hl => ?_)
            refine lv_goto (tgt := 22) hx hb dX9_isLetter_58 (by decide) ?_
            cases hf
            exact ih_6 _ _ _ _ _ hc_10 (lv_sub hl [2, 3, 0, 1] rfl) kx_7
  obtain ⟨x_18, x_19, ho, hf⟩ := sm_b2_e hf
  refine L_11 FU 0 x_1 x_18 x_19 ls ho (lv_sub hl [2, 3, 0, 1] rfl) ?_
  intro ls hl
  refine lv_iload_n hx hb dX9_isLetter_61 rfl (lv_at hl 3 rfl) ?_
  obtain ⟨hg, hf⟩ := sm_gd_e hf
  have hf := Option.some.inj hf
  rw [← hQ]
  exact W.zret (v := x_19) hx hb hr (sm_bz_nar hg) (fun t ht hW => ⟨_, rfl, hf, ht⟩) (fun _ h => by cases h) dX9_isLetter_62
