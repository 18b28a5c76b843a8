/-! Wrong and its superclasses: constructors: printed by gen (patch) -/
set_option maxRecDepth 100000
theorem sm_refn {v : Value} (h : sm_ref v) : narrow (.array (.object "java/lang/StackTraceElement")) v = v ∧ fits (.array (.object "java/lang/StackTraceElement")) v = true ∧ True := by
  rcases h with e | ⟨a, e⟩ <;> subst e <;> exact ⟨rfl, rfl, trivial⟩
theorem sm_refo {v : Value} (h : sm_ref v) : narrow (.object "java/util/List") v = v ∧ fits (.object "java/util/List") v = true := by
  rcases h with e | ⟨a, e⟩ <;> subst e <;> exact ⟨rfl, rfl⟩
abbrev rJ7_init_2 : Room := { frames := 1, cells := 0, slots := 0, locals := 60 }
set_option maxHeartbeats 4000000 in
theorem wJ7_init_2 (l : Launch) (g : GG) (w : Nat) (z : ZZ) : Met l yJ7_init_2 (ws_ yJ7_init_2 cJ7_init_2 5 none) rJ7_init_2 (va_Pc [.ref w, .null, .null, .int 0, .int 0] (fun Ux => PP g (WW w 0) Ux.heap ∧ EV g Ux ∧ ZO z (AF w) Ux Ux.heap)) (va_Qv (fun (_ : Unit) => True) (fun _ t => PP g (WW w 0) t.heap ∧ va_D (AF w) (WW w 0)) (AF w)) 0 0 (AF w) := by
  refine sm_st (by decide) ?_
  intro p e s m args below meth c hx hb hr hlocks hml hown hnm hts hv
  obtain ⟨hargs, hP, hE, hZ⟩ := hv
  obtain ⟨hK, hN⟩ := id hE
  have hS : va_S (AF w) s.heap s.heap [] := va_S.rf
  have hD : va_D (AF w) (WW w 0) := (sm_D (n := 1) (f := fun _ => w) rfl).mpr ⟨fun i j hi hj _ => by omega, fun _ _ => rfl⟩
  have hown : s.vm.findClass RJ7 = some m.cls := hown
  refine sm_en _ (Nat.le_of_ble_eq_true rfl) hargs (fun ls hl => ?_)
  have hl : lv_has ls 5 [(0, .ref w), (1, .null), (2, .null), (3, .int 0), (4, .int 0)] := hl
  refine lv_aload_n hx hb dJ7_init_2_0 rfl (lv_at hl 0 rfl) ?_
  refine W.objInit hx hb hown (hts _ q519) (hts _ q90) (hts _ q91) rfl (by rw [hml]; exact hl.1) rfl dJ7_init_2_1 (Nat.le_of_ble_eq_true rfl) (Nat.le_of_ble_eq_true rfl) ?_
  refine W.eq (g2 := F0 m 4 ls []) rfl ?_
  refine lv_aload_n hx hb dJ7_init_2_4 rfl (lv_at hl 0 rfl) ?_
  refine lv_aload_n hx hb dJ7_init_2_5 rfl (lv_at hl 0 rfl) ?_
  refine va_put (D := (g.1, g.2.1)) (ci := 11) (v := .ref w) (ty := (.object "java/lang/Throwable")) (C := RX11) (T := TX11) (N := 7) hx hb hts in_X11 tyX11 tyX11_ok nmX11 hown hK hP hD hS 0 rfl rfl 0 (by decide) (hts _ q549) (fun _ h9 => h9) rfl (by decide +kernel) rfl rfl (Nat.le_of_ble_eq_true rfl) dJ7_init_2_6 (fun H locs hP hD hS => ?_)
  have hP : PP g [(w, .inr (11, [.ref w, .null, .null, .null, .null, .int 0, .int 0]))] H := hP
  have hD : va_D (AF w) [(w, .inr (11, [.ref w, .null, .null, .null, .null, .int 0, .int 0]))] := hD
  refine lv_aload_n hx hb dJ7_init_2_9 rfl (lv_at hl 0 rfl) ?_
  refine va_gets hx hb hZ.2.2.2.2.2.1 hS hown (hts _ q520) (fun _ h9 => h9) dJ7_init_2_10 ?_
  refine va_put (D := (g.1, g.2.1)) (ci := 11) (v := z.2.2.2.1) (ty := (.array (.object "java/lang/StackTraceElement"))) (C := RX11) (T := TX11) (N := 7) hx hb hts in_X11 tyX11 tyX11_ok nmX11 hown hK hP hD hS 0 rfl rfl 1 (by decide) (hts _ q550) (fun _ h9 => h9) rfl (by decide +kernel) (sm_refn hZ.2.2.2.2.2.2.2.1).1 (sm_refn hZ.2.2.2.2.2.2.2.1).2.1 (Nat.le_of_ble_eq_true rfl) dJ7_init_2_13 (fun H locs hP hD hS => ?_)
  have hP : PP g [(w, .inr (11, [.ref w, z.2.2.2.1, .null, .null, .null, .int 0, .int 0]))] H := hP
  have hD : va_D (AF w) [(w, .inr (11, [.ref w, z.2.2.2.1, .null, .null, .null, .int 0, .int 0]))] := hD
  refine lv_aload_n hx hb dJ7_init_2_16 rfl (lv_at hl 0 rfl) ?_
  refine va_gets hx hb hZ.2.2.2.2.2.2.1 hS hown (hts _ q522) (fun _ h9 => h9) dJ7_init_2_17 ?_
  refine va_put (D := (g.1, g.2.1)) (ci := 11) (v := z.2.2.2.2) (ty := (.object "java/util/List")) (C := RX11) (T := TX11) (N := 7) hx hb hts in_X11 tyX11 tyX11_ok nmX11 hown hK hP hD hS 0 rfl rfl 2 (by decide) (hts _ q551) (fun _ h9 => h9) rfl (by decide +kernel) (sm_refo hZ.2.2.2.2.2.2.2.2).1 (sm_refo hZ.2.2.2.2.2.2.2.2).2 (Nat.le_of_ble_eq_true rfl) dJ7_init_2_20 (fun H locs hP hD hS => ?_)
  have hP : PP g [(w, .inr (11, [.ref w, z.2.2.2.1, z.2.2.2.2, .null, .null, .int 0, .int 0]))] H := hP
  have hD : va_D (AF w) [(w, .inr (11, [.ref w, z.2.2.2.1, z.2.2.2.2, .null, .null, .int 0, .int 0]))] := hD
  refine lv_iload hx hb dJ7_init_2_23 (lv_at hl 4 rfl) ?_
  refine lv_if_eq (tgt := 36) hx hb dJ7_init_2_25 (by decide) (fun _ => ?_) (fun h => absurd rfl h)
  refine lv_aload_n hx hb dJ7_init_2_36 rfl (lv_at hl 0 rfl) ?_
  refine lv_null hx hb dJ7_init_2_37 ?_
  refine va_put (D := (g.1, g.2.1)) (ci := 11) (v := .null) (ty := (.array (.object "java/lang/StackTraceElement"))) (C := RX11) (T := TX11) (N := 7) hx hb hts in_X11 tyX11 tyX11_ok nmX11 hown hK hP hD hS 0 rfl rfl 1 (by decide) (hts _ q550) (fun _ h9 => h9) rfl (by decide +kernel) rfl rfl (Nat.le_of_ble_eq_true rfl) dJ7_init_2_38 (fun H locs hP hD hS => ?_)
  have hP : PP g [(w, .inr (11, [.ref w, .null, z.2.2.2.2, .null, .null, .int 0, .int 0]))] H := hP
  have hD : va_D (AF w) [(w, .inr (11, [.ref w, .null, z.2.2.2.2, .null, .null, .int 0, .int 0]))] := hD
  refine lv_aload_n hx hb dJ7_init_2_41 rfl (lv_at hl 0 rfl) ?_
  refine lv_aload_nN hx hb dJ7_init_2_42 rfl (lv_at hl 1 rfl) ?_
  refine va_put (D := (g.1, g.2.1)) (ci := 11) (v := .null) (ty := (.object "java/lang/String")) (C := RX11) (T := TX11) (N := 7) hx hb hts in_X11 tyX11 tyX11_ok nmX11 hown hK hP hD hS 0 rfl rfl 3 (by decide) (hts _ q548) (fun _ h9 => h9) rfl (by decide +kernel) rfl rfl (Nat.le_of_ble_eq_true rfl) dJ7_init_2_43 (fun H locs hP hD hS => ?_)
  have hP : PP g [(w, .inr (11, [.ref w, .null, z.2.2.2.2, .null, .null, .int 0, .int 0]))] H := hP
  have hD : va_D (AF w) [(w, .inr (11, [.ref w, .null, z.2.2.2.2, .null, .null, .int 0, .int 0]))] := hD
  refine lv_aload_n hx hb dJ7_init_2_46 rfl (lv_at hl 0 rfl) ?_
  refine lv_aload_nN hx hb dJ7_init_2_47 rfl (lv_at hl 2 rfl) ?_
  refine va_put (D := (g.1, g.2.1)) (ci := 11) (v := .null) (ty := (.object "java/lang/Throwable")) (C := RX11) (T := TX11) (N := 7) hx hb hts in_X11 tyX11 tyX11_ok nmX11 hown hK hP hD hS 0 rfl rfl 0 (by decide) (hts _ q549) (fun _ h9 => h9) rfl (by decide +kernel) rfl rfl (Nat.le_of_ble_eq_true rfl) dJ7_init_2_48 (fun H locs hP hD hS => ?_)
  have hP : PP g [(w, .inr (11, [.null, .null, z.2.2.2.2, .null, .null, .int 0, .int 0]))] H := hP
  have hD : va_D (AF w) [(w, .inr (11, [.null, .null, z.2.2.2.2, .null, .null, .int 0, .int 0]))] := hD
  refine lv_iload_n hx hb dJ7_init_2_51 rfl (lv_at hl 3 rfl) ?_
  refine lv_if_ne (tgt := 60) hx hb dJ7_init_2_52 (by decide) (fun h => absurd rfl h) (fun _ => ?_)
  refine lv_aload_n hx hb dJ7_init_2_55 rfl (lv_at hl 0 rfl) ?_
  refine lv_null hx hb dJ7_init_2_56 ?_
  refine va_put (D := (g.1, g.2.1)) (ci := 11) (v := .null) (ty := (.object "java/util/List")) (C := RX11) (T := TX11) (N := 7) hx hb hts in_X11 tyX11 tyX11_ok nmX11 hown hK hP hD hS 0 rfl rfl 2 (by decide) (hts _ q551) (fun _ h9 => h9) rfl (by decide +kernel) rfl rfl (Nat.le_of_ble_eq_true rfl) dJ7_init_2_57 (fun H locs hP hD hS => ?_)
  have hP : PP g [(w, .inr (11, [.null, .null, .null, .null, .null, .int 0, .int 0]))] H := hP
  have hD : va_D (AF w) [(w, .inr (11, [.null, .null, .null, .null, .null, .int 0, .int 0]))] := hD
  exact W.vret hx hb hr (fun t ht hW => ⟨⟨(), rfl, trivial, by rw [ht]; exact hP, hD⟩, hS.F ht⟩) hS.2.2 dJ7_init_2_60
abbrev rJ8_init : Room := { frames := 2, cells := 0, slots := 0, locals := 110 }
set_option maxHeartbeats 4000000 in
theorem wJ8_init (l : Launch) (g : GG) (w : Nat) (z : ZZ) : Met l yJ8_init (ws_ yJ8_init cJ8_init 5 none) rJ8_init (va_Pc [.ref w, .null, .null, .int 0, .int 0] (fun Ux => PP g (WW w 0) Ux.heap ∧ EV g Ux ∧ ZO z (AF w) Ux Ux.heap)) (va_Qv (fun (_ : Unit) => True) (fun _ t => PP g (WW w 0) t.heap ∧ va_D (AF w) (WW w 0)) (AF w)) 0 0 (AF w) := by
  refine sm_st (by decide) ?_
  intro p e s m args below meth c hx hb hr hlocks hml hown hnm hts hv
  obtain ⟨hargs, hP, hE, hZ⟩ := hv
  obtain ⟨hK, hN⟩ := id hE
  have hS : va_S (AF w) s.heap s.heap [] := va_S.rf
  have hD : va_D (AF w) (WW w 0) := (sm_D (n := 1) (f := fun _ => w) rfl).mpr ⟨fun i j hi hj _ => by omega, fun _ _ => rfl⟩
  have hown : s.vm.findClass RJ8 = some m.cls := hown
  refine sm_en _ (Nat.le_of_ble_eq_true rfl) hargs (fun ls hl => ?_)
  have hl : lv_has ls 5 [(0, .ref w), (1, .null), (2, .null), (3, .int 0), (4, .int 0)] := hl
  refine lv_aload_n hx hb dJ8_init_0 rfl (lv_at hl 0 rfl) ?_
  refine lv_aload_nN hx hb dJ8_init_1 rfl (lv_at hl 1 rfl) ?_
  refine lv_aload_nN hx hb dJ8_init_2 rfl (lv_at hl 2 rfl) ?_
  refine lv_iload_n hx hb dJ8_init_3 rfl (lv_at hl 3 rfl) ?_
  refine lv_iload hx hb dJ8_init_4 (lv_at hl 4 rfl) ?_
  refine va_callv (va_runI (As := [.null, .null, .int 0, .int 0]) (rest := []) ⟨hx, hb, hml, hown, hts⟩ (wJ7_init_2 l g w z) (cwI 4 hts (lw_meth q544) rfl rfl rfl (hts _ q78) (hts _ q542) (hts _ q543) rfl (by decide +kernel) ⟨Nat.le_of_ble_eq_true rfl, Nat.le_of_ble_eq_true rfl⟩) (sm_pw hE hS hZ hP rfl) rfl rfl hl.1 rfl (lv_room (Nat.le_of_ble_eq_true rfl)) dJ8_init_6 ⟨Nat.le_of_ble_eq_true rfl, Nat.le_of_ble_eq_true rfl⟩) hS (fun _ _ h => h) (fun _ h => h) (fun u t H locs ht hvm er hB hz hk hS => ?_)
  obtain ⟨hP, hD⟩ := hB
  rw [ht] at hP
  exact W.vret hx hb hr (fun t ht hW => ⟨⟨(), rfl, trivial, by rw [ht]; exact hP, hD⟩, hS.F ht⟩) hS.2.2 dJ8_init_9
abbrev rJ9_init : Room := { frames := 3, cells := 0, slots := 0, locals := 160 }
set_option maxHeartbeats 4000000 in
theorem wJ9_init (l : Launch) (g : GG) (w : Nat) (z : ZZ) : Met l yJ9_init (ws_ yJ9_init cJ9_init 5 none) rJ9_init (va_Pc [.ref w, .null, .null, .int 0, .int 0] (fun Ux => PP g (WW w 0) Ux.heap ∧ EV g Ux ∧ ZO z (AF w) Ux Ux.heap)) (va_Qv (fun (_ : Unit) => True) (fun _ t => PP g (WW w 0) t.heap ∧ va_D (AF w) (WW w 0)) (AF w)) 0 0 (AF w) := by
  refine sm_st (by decide) ?_
  intro p e s m args below meth c hx hb hr hlocks hml hown hnm hts hv
  obtain ⟨hargs, hP, hE, hZ⟩ := hv
  obtain ⟨hK, hN⟩ := id hE
  have hS : va_S (AF w) s.heap s.heap [] := va_S.rf
  have hD : va_D (AF w) (WW w 0) := (sm_D (n := 1) (f := fun _ => w) rfl).mpr ⟨fun i j hi hj _ => by omega, fun _ _ => rfl⟩
  have hown : s.vm.findClass RJ9 = some m.cls := hown
  refine sm_en _ (Nat.le_of_ble_eq_true rfl) hargs (fun ls hl => ?_)
  have hl : lv_has ls 5 [(0, .ref w), (1, .null), (2, .null), (3, .int 0), (4, .int 0)] := hl
  refine lv_aload_n hx hb dJ9_init_0 rfl (lv_at hl 0 rfl) ?_
  refine lv_aload_nN hx hb dJ9_init_1 rfl (lv_at hl 1 rfl) ?_
  refine lv_aload_nN hx hb dJ9_init_2 rfl (lv_at hl 2 rfl) ?_
  refine lv_iload_n hx hb dJ9_init_3 rfl (lv_at hl 3 rfl) ?_
  refine lv_iload hx hb dJ9_init_4 (lv_at hl 4 rfl) ?_
  refine va_callv (va_runI (As := [.null, .null, .int 0, .int 0]) (rest := []) ⟨hx, hb, hml, hown, hts⟩ (wJ8_init l g w z) (cwI 4 hts (lw_meth q541) rfl rfl rfl (hts _ q79) (hts _ q539) (hts _ q540) rfl (by decide +kernel) ⟨Nat.le_of_ble_eq_true rfl, Nat.le_of_ble_eq_true rfl⟩) (sm_pw hE hS hZ hP rfl) rfl rfl hl.1 rfl (lv_room (Nat.le_of_ble_eq_true rfl)) dJ9_init_6 ⟨Nat.le_of_ble_eq_true rfl, Nat.le_of_ble_eq_true rfl⟩) hS (fun _ _ h => h) (fun _ h => h) (fun u t H locs ht hvm er hB hz hk hS => ?_)
  obtain ⟨hP, hD⟩ := hB
  rw [ht] at hP
  exact W.vret hx hb hr (fun t ht hW => ⟨⟨(), rfl, trivial, by rw [ht]; exact hP, hD⟩, hS.F ht⟩) hS.2.2 dJ9_init_9
abbrev rX11_init : Room := { frames := 4, cells := 0, slots := 0, locals := 210 }
set_option maxHeartbeats 4000000 in
theorem wX11_init (l : Launch) (g : GG) (w : Nat) (z : ZZ) (at_ : Int32) : Met l yX11_init (ws_ yX11_init cX11_init 2 none) rX11_init (va_Pc [.ref w, .int at_] (fun Ux => PP g (WW w 0) Ux.heap ∧ EV g Ux ∧ ZO z (AF w) Ux Ux.heap)) (va_Qv (fun (_ : Unit) => True) (fun _ t => PP g (WW w at_) t.heap ∧ va_D (AF w) (WW w at_)) (AF w)) 0 0 (AF w) := by
  refine sm_st (by decide) ?_
  intro p e s m args below meth c hx hb hr hlocks hml hown hnm hts hv
  obtain ⟨hargs, hP, hE, hZ⟩ := hv
  obtain ⟨hK, hN⟩ := id hE
  have hS : va_S (AF w) s.heap s.heap [] := va_S.rf
  have hD : va_D (AF w) (WW w 0) := (sm_D (n := 1) (f := fun _ => w) rfl).mpr ⟨fun i j hi hj _ => by omega, fun _ _ => rfl⟩
  have hown : s.vm.findClass RX11 = some m.cls := hown
  refine sm_en _ (Nat.le_of_ble_eq_true rfl) hargs (fun ls hl => ?_)
  have hl : lv_has ls 2 [(0, .ref w), (1, .int at_)] := hl
  refine lv_aload_n hx hb dX11_init_0 rfl (lv_at hl 0 rfl) ?_
  refine lv_null hx hb dX11_init_1 ?_
  refine lv_null hx hb dX11_init_2 ?_
  refine lv_iconst (v := 0) hx hb dX11_init_3 (by decide) ?_
  refine lv_iconst (v := 0) hx hb dX11_init_4 (by decide) ?_
  refine va_callv (va_runI (As := [.null, .null, .int 0, .int 0]) (rest := []) ⟨hx, hb, hml, hown, hts⟩ (wJ9_init l g w z) (cwI 4 hts (lw_meth q538) rfl rfl rfl (hts _ q80) (hts _ q536) (hts _ q537) rfl (by decide +kernel) ⟨Nat.le_of_ble_eq_true rfl, Nat.le_of_ble_eq_true rfl⟩) (sm_pw hE hS hZ hP rfl) rfl rfl hl.1 rfl (lv_room (Nat.le_of_ble_eq_true rfl)) dX11_init_5 ⟨Nat.le_of_ble_eq_true rfl, Nat.le_of_ble_eq_true rfl⟩) hS (fun _ _ h => h) (fun _ h => h) (fun u t H locs ht hvm er hB hz hk hS => ?_)
  obtain ⟨hP, hD⟩ := hB
  rw [ht] at hP
  refine lv_aload_n hx hb dX11_init_8 rfl (lv_at hl 0 rfl) ?_
  refine lv_iload_n hx hb dX11_init_9 rfl (lv_at hl 1 rfl) ?_
  refine va_putF (D := (g.1, g.2.1)) (ci := 11) (v := .int at_) (ty := .int) (C := RX11) (T := TX11) (N := 7) hx hb hts in_X11 tyX11 tyX11_ok nmX11 hown hK hP hD hS 0 rfl rfl 6 (by decide) (hts _ q545) (fun _ h9 => h9) rfl hnm rfl (by decide +kernel) rfl rfl (Nat.le_of_ble_eq_true rfl) dX11_init_10 (fun H locs hP hD hS => ?_)
  have hP : PP g (WW w at_) H := hP
  have hD : va_D (AF w) (WW w at_) := hD
  exact W.vret hx hb hr (fun t ht hW => ⟨⟨(), rfl, trivial, by rw [ht]; exact hP, hD⟩, hS.F ht⟩) hS.2.2 dX11_init_13
