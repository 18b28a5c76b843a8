/-! common (recursive), the base of findRow, by hand -/
set_option maxRecDepth 100000
theorem sm_cat {g : GG} {s : State} {ci : Nat} {C : String} {T : u_T} {N : Nat} (hK : va_K (g.1, g.2.1) vwCl (tyL g) s) (h : vwCl[ci]? = some (C, T, N)) : ClassAt s C (g.1 ci) := (hK.1 ci _ h).2
def fX0_common : Nat → Int64 → Int64 → Option Int64
  | 0, _, _ => none
  | n + 1, a, b => if lg_cmp b 0 = 0 then some a else sm_gd (sm_nzl b) (fX0_common n b (a - a / b * b))
abbrev rX0_common (n : Nat) : Room := { frames := n, cells := 0, slots := 0, locals := 23 * n }
set_option maxHeartbeats 4000000 in
theorem wX0_common (l : Launch) : ∀ (n : Nat) (a b r : Int64), fX0_common n a b = some r → Met l yX0_common (ws_ yX0_common cX0_common 4 (some .long)) (rX0_common n) (va_Pc [.long a, .long b] (fun _ => True)) (vp_Sl (fun y => y = r)) 0 0 (fun _ => False) := by
  intro n
  induction n with
  | zero => intro a b r hf; cases hf
  | succ n ih =>
    intro a b rf hf
    refine sm_st (by decide) ?_
    intro p e s m args below meth c hx hb hr hlocks hml hown hnm hts hv
    obtain ⟨hargs, -⟩ := hv
    have hown : s.vm.findClass RX0 = some m.cls := hown
    refine sm_en _ (Nat.le_of_ble_eq_true rfl) hargs (fun ls hl => ?_)
    have hl : lv_has ls 4 [(0, .long a), (2, .long b)] := hl
    generalize hQ : MQ below _ args s _ _ _ = Q
    unfold fX0_common at hf
    refine lv_lload_n hx hb dX0_common_0 rfl (lv_at hl 1 rfl) ?_
    refine lv_lconst (v := 0) hx hb dX0_common_1 (by decide) ?_
    refine W.lcmp hx hb dX0_common_2 ?_
    refine lv_if_ne (tgt := 10) hx hb dX0_common_3 (by decide) (fun h1 => ?_) (fun h1 => ?_)
    · have hf := (if_neg h1).symm.trans hf
      obtain ⟨hg, hf⟩ := sm_gd_e hf
      refine lv_lload_n hx hb dX0_common_10 rfl (lv_at hl 1 rfl) ?_
      refine lv_lload_n hx hb dX0_common_11 rfl (lv_at hl 0 rfl) ?_
      refine lv_lload_n hx hb dX0_common_12 rfl (lv_at hl 1 rfl) ?_
      refine lv_lrem hx hb dX0_common_13 (sm_nel hg) ?_
      refine vp_callSl (W.runS (As := [.long b, .long (a - a / b * b)]) (rest := []) ⟨hx, hb, hml, hown, hts⟩ (ih b (a - a / b * b) rf hf) (va_cwS 2 hts (lw_S q717 q718 q60 q719) rfl rfl rfl (by decide +kernel) ⟨Nat.le_refl _, by show 8 + (4 + 11) + 23 * n ≤ 23 * (n + 1); omega⟩) (sm_ps) rfl rfl hl.1 rfl (lv_room (Nat.le_of_ble_eq_true rfl)) dX0_common_14 ⟨Nat.le_of_ble_eq_true rfl, Nat.le_of_ble_eq_true rfl⟩) (fun r er => ?_)
      rw [← hQ]
      exact W.lret (v := r) hx hb hr (fun t ht hW => ⟨_, rfl, er, ht⟩) (fun _ h => by cases h) dX0_common_17
    · have hf := (if_pos h1).symm.trans hf
      refine lv_lload_n hx hb dX0_common_6 rfl (lv_at hl 0 rfl) ?_
      refine lv_goto (tgt := 17) hx hb dX0_common_7 (by decide) ?_
      rw [← hQ]
      exact W.lret (v := a) hx hb hr (fun t ht hW => ⟨_, rfl, Option.some.inj hf, ht⟩) (fun _ h => by cases h) dX0_common_17
def fX0_findRow_k0 (_ : XS) (_ _ _ : Int32) : Option (XS × Int32) := none
abbrev rX0_findRow_k0 : Room := { frames := 0, cells := 0, slots := 0, locals := 0 }
theorem wX0_findRow_k0 (l : Launch) (g : GG) (ad : Nat → Nat) (S : XS) (a1 : Int32) (a2 : Int32) (a3 : Int32) (Sf : XS) (rf : Int32) (hf : fX0_findRow_k0 S a1 a2 a3 = some (Sf, rf)) : Met l yX0_findRow (ws_ yX0_findRow cX0_findRow 5 (some .boolean)) rX0_findRow_k0 (va_Pc [.ref (ad 0), .int a1, .int a2, .int a3] (fun Ux => PP g (WX g ad S) Ux.heap ∧ EV g Ux ∧ va_D (AX ad) (WX g ad S))) (va_Qi (fun y (_ : Unit) => y = rf) (fun _ t => PP g (WX g ad Sf) t.heap ∧ va_D (AX ad) (WX g ad Sf)) (AX ad)) 0 0 (AX ad) := by cases hf
