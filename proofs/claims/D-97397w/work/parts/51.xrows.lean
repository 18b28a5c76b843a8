/-! rows of the X worlds, by hand -/
set_option maxRecDepth 100000
theorem sm_lt_in {i : Int32} {n : Nat} (h : vp_in i n) : i.toNatClampNeg < n := Nat.not_le.mp fun q => h (Or.inr q)
theorem sm_im {x : Nat} (h : x < 2) : 2 + x < 14 := by omega
theorem sm_aI {ad : Nat → Nat} {j : Nat} (hj : j < 14) (q : Nat) (h : AI (ai ad j) q) : AX ad q := by
  obtain ⟨c, hc, e⟩ := h
  exact ⟨29 + 4 * j + c, by omega, e⟩
theorem sm_aIB {ad : Nat → Nat} {j : Nat} (hj : j < 14) (q : Nat) (h : AIB (ai ad j) (bd ad) q) : AX ad q := by
  rcases h with h | ⟨c, hc, e⟩
  · exact sm_aI hj q h
  · exact ⟨1 + c, by omega, e⟩
theorem sm_aII {ad : Nat → Nat} {j i : Nat} (hj : j < 14) (hi : i < 14) (q : Nat) (h : AII (ai ad j) (ai ad i) q) : AX ad q := by
  rcases h with h | h
  · exact sm_aI hj q h
  · exact sm_aI hi q h
theorem sm_brow {g : GG} {ad : Nat → Nat} {S : XS} {c : Nat} (h : c < 4) : (WX g ad S)[12 + c]? = some (ad (12 + c), .inl (g.2.2 0, 5, .inl (S.2.1 (40 + c)))) := by
  have : c = 0 ∨ c = 1 ∨ c = 2 ∨ c = 3 := by omega
  rcases this with e | e | e | e <;> subst e <;> rfl
theorem sm_brw {g : GG} {ad : Nat → Nat} {S : XS} {c : Nat} (h : c < 4) {f : Nat → Int32} : (WX g ad S).set (12 + c) (ad (12 + c), .inl (g.2.2 0, 5, .inl f)) = WX g ad (xr S (40 + c) f) := by
  have : c = 0 ∨ c = 1 ∨ c = 2 ∨ c = 3 := by omega
  rcases this with e | e | e | e <;> subst e <;> rfl
theorem sm_brwP {g : GG} {ad : Nat → Nat} {S : XS} {c : Nat} (h : c < 4) {f : Nat → Int32} {H : Heap} (hP : PP g ((WX g ad S).set (12 + c) (ad (12 + c), .inl (g.2.2 0, 5, .inl f))) H) : PP g (WX g ad (xr S (40 + c) f)) H := by
  rw [← sm_brw h]; exact hP
theorem sm_brwD {g : GG} {ad : Nat → Nat} {S : XS} {c : Nat} (h : c < 4) {f : Nat → Int32} {A : Nat → Prop} (hP : va_D A ((WX g ad S).set (12 + c) (ad (12 + c), .inl (g.2.2 0, 5, .inl f)))) : va_D A (WX g ad (xr S (40 + c) f)) := by
  rw [← sm_brw h]; exact hP
theorem sm_icell {g : GG} {ad : Nat → Nat} {S : XS} {j : Nat} (h : j < 14) : (WX g ad S)[29 + 4 * j]? = some (ad (29 + 4 * j), .inr (2, [.int ((S.2.2.1 j).1 0), .int ((S.2.2.1 j).1 1), .int ((S.2.2.1 j).1 2), .ref (ad (29 + 4 * j + 1)), .ref (ad (29 + 4 * j + 2)), .ref (ad (29 + 4 * j + 3)), .int ((S.2.2.1 j).1 6)])) := by
  have : j = 0 ∨ j = 1 ∨ j = 2 ∨ j = 3 ∨ j = 4 ∨ j = 5 ∨ j = 6 ∨ j = 7 ∨ j = 8 ∨ j = 9 ∨ j = 10 ∨ j = 11 ∨ j = 12 ∨ j = 13 := by omega
  rcases this with e | e | e | e | e | e | e | e | e | e | e | e | e | e <;> subst e <;> rfl
def sm_pk (pm : Nat → Nat) : Bool := (List.range 10).all (fun i => decide (pm i < 14))
theorem sm_pk_e {pm : Nat → Nat} (h : sm_pk pm = true) {i : Nat} (hi : i < 10) : pm i < 14 := of_decide_eq_true (List.all_eq_true.mp h i (List.mem_range.mpr hi))
theorem sm_hel {g : GG} {ad : Nat → Nat} {S : XS} {s : State} {H : Heap} (h : sm_pk S.2.2.2.2.2 = true) (hK : va_K (g.1, g.2.1) vwCl (tyL g) s) (hP : PP g (WX g ad S) H) : ∀ i : Nat, i < (9 : Int32).toNatClampNeg → ∀ y : Nat, (fun i => some (ad (29 + 4 * S.2.2.2.2.2 i))) ((1 : Int32).toNatClampNeg + i) = some y → ∃ cellV : Cell, H[y]? = some cellV ∧ cellV.vm.isStatics = false ∧ s.vm.findClass RX2 = some cellV.cls := by
  intro i hi y hy
  have hi9 : i < 9 := hi
  have e1 : (1 : Int32).toNatClampNeg = 1 := rfl
  rw [e1] at hy
  cases Option.some.inj hy
  exact va_recv (q := (RX2, TX2, 7)) hK hP (ci := 2) rfl (sm_icell (sm_pk_e h (by omega)))
theorem sm_vp_q {cA : ClassId} {n : Nat} {f h : Nat → Option Nat} (e : ∀ j, j < n → f j = h j) : vp_cell cA (n, .inr (.inr (.inr (.inr f)))) = vp_cell cA (n, .inr (.inr (.inr (.inr h)))) := by
  rw [vp_cell_q, vp_cell_q]
  unfold arrV
  congr 1
  congr 1
  funext j
  show va_rf (f j.val) = va_rf (h j.val)
  rw [e j.val j.isLt]
theorem sm_rot1e {ad : Nat → Nat} {pm : Nat → Nat} {a b c : Nat} : va_cpy (fun i => some (ad (29 + 4 * pm i))) (fun i => some (ad (29 + 4 * pm i))) a b c = fun i => some (ad (29 + 4 * va_cpy pm pm a b c i)) := by
  funext i
  unfold va_cpy
  split <;> rfl
theorem sm_rot2e {ad : Nat → Nat} {pm : Nat → Nat} {a j : Nat} : va_up (fun i => some (ad (29 + 4 * pm i))) a (some (ad (29 + 4 * j))) = fun i => some (ad (29 + 4 * va_up pm a j i)) := by
  funext i
  unfold va_up
  split <;> rfl
theorem sm_xpW {g : GG} {ad : Nat → Nat} {S : XS} {pm : Nat → Nat} : (WX g ad S).set 20 (ad 20, .inl (g.2.2 4, 10, .inr (.inr (.inr (.inr (fun i => some (ad (29 + 4 * pm i)))))))) = WX g ad (xp S pm) := rfl
theorem sm_rot1 {g : GG} {ad : Nat → Nat} {S : XS} {H : Heap} (h : PP g ((WX g ad S).set 20 (ad 20, .inl (g.2.2 4, 10, .inr (.inr (.inr (.inr (va_cpy (fun i => some (ad (29 + 4 * S.2.2.2.2.2 i))) (fun i => some (ad (29 + 4 * S.2.2.2.2.2 i))) (1 : Int32).toNatClampNeg (0 : Int32).toNatClampNeg (9 : Int32).toNatClampNeg))))))) H) : PP g (WX g ad (xp S (va_cpy S.2.2.2.2.2 S.2.2.2.2.2 1 0 9))) H := by
  rw [sm_rot1e] at h
  exact h
theorem sm_rot1D {g : GG} {ad : Nat → Nat} {S : XS} {A : Nat → Prop} {e : va_E} (h : va_D A ((WX g ad S).set 20 (ad 20, e))) : va_D A (WX g ad S) := sm_DX.mpr ((sm_D (n := 85) (f := ad) rfl).mp h)
theorem sm_rot2 {g : GG} {ad : Nat → Nat} {S : XS} {H : Heap} {a j : Nat} (h : PP g ((WX g ad S).set 20 (ad 20, .inl (g.2.2 4, 10, .inr (.inr (.inr (.inr (va_up (fun i => some (ad (29 + 4 * S.2.2.2.2.2 i))) a (some (ad (29 + 4 * j)))))))))) H) : PP g (WX g ad (xp S (va_up S.2.2.2.2.2 a j))) H := by
  rw [sm_rot2e] at h
  exact h
theorem sm_rot2D {g : GG} {ad : Nat → Nat} {S : XS} {A : Nat → Prop} {e : va_E} (h : va_D A ((WX g ad S).set 20 (ad 20, e))) : va_D A (WX g ad S) := sm_rot1D h
/-! one array -/
abbrev WF (g : GG) (t n : Nat) (a : Nat) (f : Nat → Int32) : va_W := [(a, .inl (g.2.2 t, n, .inl f))]
def AF (a : Nat) (q : Nat) : Prop := q = a
theorem sm_dF {g : GG} {t n a : Nat} {f : Nat → Int32} : va_D (AF a) (WF g t n a f) := (sm_D (n := 1) (f := fun _ => a) rfl).mpr ⟨fun i j hi hj _ => by omega, fun _ _ => rfl⟩
theorem sm_psE {g : GG} {ws : va_W} {s : State} {H : Heap} {As : List Value} (hE : EV g s) (hP : PP g ws H) : PreS s H (va_Pc As (fun U => PP g ws U.heap ∧ EV g U)) As :=
  ⟨fun a U g' mk q => ⟨q.1, q.2.1, q.2.2.same (sm_calling U g' mk a)⟩, fun U hU hW => ⟨rfl, by rw [hU]; exact hP, hE.warm hW⟩⟩
theorem sm_psD {g : GG} {ws : va_W} {s : State} {H : Heap} {As : List Value} {A : Nat → Prop} (hE : EV g s) (hP : PP g ws H) (hD : va_D A ws) : PreS s H (va_Pc As (fun U => PP g ws U.heap ∧ EV g U ∧ va_D A ws)) As :=
  ⟨fun a U g' mk q => ⟨q.1, q.2.1, q.2.2.1.same (sm_calling U g' mk a), q.2.2.2⟩, fun U hU hW => ⟨rfl, by rw [hU]; exact hP, hE.warm hW, hD⟩⟩
theorem sm_set1 {D : va_G} {cl : List vw_C} {ws : va_W} {H H1 : Heap} {A : Nat → Prop} {a : Nat} {e0 e : va_E} (k : Nat) (hP : va_P D cl ws H) (hD : va_D A ws) (hp : ws[k]? = some (a, e0)) (hk : ∀ q : Nat, q < H.size → ¬ AF a q → H1[q]? = H[q]?) (h1 : va_P D cl [(a, e)] H1) : va_P D cl (ws.set k (a, e)) H1 ∧ va_D A (ws.set k (a, e)) := by
  refine ⟨fun i q hi => ?_, hD.set hp⟩
  by_cases hik : i = k
  · subst hik
    rw [List.getElem?_set_self (List.getElem?_eq_some_iff.mp hp).1] at hi
    cases hi
    exact h1 0 _ rfl
  · rw [List.getElem?_set_ne (fun h => hik h.symm)] at hi
    have hat := hP i q hi
    refine hat.kept (hk q.1 hat.lt fun hq => hik (hD.1 i k q (a, e0) hi hp hq))
section SMR
variable {p : Program} {l : Launch} {e : Env} {R : Room} {s : State} {m : MethodId} {args : Array Value} {below : List Frame} {meth : Method} {c : Code} {H : Heap} {locs : List Loc} {cells slots : Nat} {Q : State → Prop} {D : va_G} {cl : List vw_C} {tys : List (ClassId × FieldType)} {ws : va_W} {A : Nat → Prop} {H0 : Heap} {pc : Nat} {ls : Array Slot} {rest : List Value} {a : Nat}
theorem sm_aldA {cc : ByteArray} (hexec : p.tables.exec = Jvm.exec) (hb : c.code = cc) (hK : va_K D cl tys s) (hP : va_P D cl ws H) (q0 t0 : Nat) {cA : ClassId} {ty : FieldType} {n : Nat} {f : Nat → Option Nat} (ha : ws[q0]? = some (a, .inl (cA, n, .inr (.inr (.inr (.inr f)))))) (ht : tys[t0]? = some (cA, .array ty)) {i : Int32} (hin : vp_in i n) (hdg : decode cc pc = .ok (.aaload, 1))
    (kk : W p l e R s m args below meth c H locs cells slots Q (F0 m (pc + 1) ls (va_rf (f i.toNatClampNeg) :: rest))) : W p l e R s m args below meth c H locs cells slots Q (F0 m pc ls (.int i :: .ref a :: rest)) := by
  have hlt : i.toNatClampNeg < n := Nat.not_le.mp fun q => hin (Or.inr q)
  exact W.aald (v := va_rf (f i.toNatClampNeg)) (ty := .array ty) hexec hb (hP q0 _ ha) ((hK.2 t0 _ ht).1 n (fun j => va_rf (f j))) rfl (fun q => by cases q) (by show ¬ (i < 0 ∨ (arrV _ _ _).slots.size ≤ _); rw [arrV_size]; exact hin) (by show (arrV _ _ _).slots[_]? = _; rw [arrV_read _ _ hlt]) rfl rfl hdg kk
theorem sm_copyi {cc : ByteArray} {SP DP N : Nat} (hexec : p.tables.exec = Jvm.exec) (hb : c.code = cc) (hml : c.maxLocals = ls.size) {own : String} {index : Nat} (hown : s.vm.findClass own = some m.cls) (hlink : (Cond.methodLink own index arraycopyName).before args s = true) (hnat : (Cond.native arraycopyName).before args s = true) (hstat : (Cond.static arraycopyName).before args s = true) (hini : (Cond.initialized "java/lang/System").before args s = true)
    (hK : va_K D cl tys s) (hP : va_P D cl ws H) (hD : va_D A ws) (hS : va_S A H0 H locs) (q0 q1 t0 t1 : Nat) {a0 : Nat} {c0 c1 : ClassId} {n0 n1 : Nat} {f g : Nat → Int32} {ty : FieldType} (ha0 : ws[q0]? = some (a0, .inl (c0, n0, .inl f))) (ha1 : ws[q1]? = some (a, .inl (c1, n1, .inl g))) (ht0 : tys[t0]? = some (c0, ty)) (ht1 : tys[t1]? = some (c1, ty)) (hprim : refKind ty = false)
    {sp dp n : Int32} (e1 : sp.toNatClampNeg = SP) (e2 : dp.toNatClampNeg = DP) (e3 : n.toNatClampNeg = N) (h1 : ¬ sp < 0) (h2 : ¬ dp < 0) (h3 : ¬ n < 0) (h4 : SP + N ≤ n0) (h5 : DP + N ≤ n1) (hfit : ∀ i, i < N → fits ty (.int (f (SP + i))) = true)
    (hframes : 1 ≤ R.frames) (hlocals : (rest.map fun v => v.category).sum + (nativeFrameWords "java/lang/System" "arraycopy" 5 + 11) ≤ R.locals) (hdg : decode cc pc = .ok (.invokestatic index, 3))
    (kk : ∀ (H1 : Heap) (locs1 : List Loc), va_P D cl (ws.set q1 (a, .inl (c1, n1, .inl (va_cpy f g SP DP N)))) H1 → va_D A (ws.set q1 (a, .inl (c1, n1, .inl (va_cpy f g SP DP N)))) → va_S A H0 H1 locs1 → W p l e R s m args below meth c H1 locs1 cells slots Q (F0 m (pc + 3) ls rest)) : W p l e R s m args below meth c H locs cells slots Q (F0 m pc ls (.int n :: .int dp :: .ref a :: .int sp :: .ref a0 :: rest)) := by
  subst e1; subst e2; subst e3
  exact va_copyi hexec hb hml hown hlink hnat hstat hini hK hP hD hS q0 q1 t0 t1 ha0 ha1 ht0 ht1 hprim h1 h2 h3 h4 h5 hfit hframes hlocals hdg kk
end SMR
theorem lw_SU {own : String} {idx : Nat} {y : MethodName} {b : ByteArray} {L : Nat} {r : Option FieldType} (h1 : Cond.methodLink own idx y ∈ lw_all) (h2 : Cond.sameMethod y.cls y.cls y.name y.desc ∈ lw_all) (h3 : Cond.superclass own y.cls ∈ lw_all) (h4 : Cond.instanceMethod y ∈ lw_all) (h5 : Cond.initialized y.cls ∈ lw_all) (h6 : Cond.code y b L r ∈ lw_all) : GoodIn lw_all (va_wsSU own idx y (ws_ y b L r)) := by
  refine lw_app ?_ (lw_meth h6)
  intro w hw
  simp only [List.mem_cons, List.not_mem_nil, or_false] at hw
  rcases hw with e | e | e | e | e <;> rw [e] <;> assumption
theorem lw_O {own : String} {idx : Nat} {C owner : String} {x y : MethodName} {b : ByteArray} {L : Nat} {r : Option FieldType} (h1 : Cond.methodLink own idx x ∈ lw_all) (h2 : Cond.sameMethod x.cls owner x.name x.desc ∈ lw_all) (h3 : Cond.instanceMethod ⟨owner, x.name, x.desc⟩ ∈ lw_all) (h4 : Cond.selects C x y ∈ lw_all) (h5 : Cond.instanceMethod y ∈ lw_all) (h6 : Cond.initialized y.cls ∈ lw_all) (h7 : Cond.code y b L r ∈ lw_all) : GoodIn lw_all (va_wsO own idx C owner x y (ws_ y b L r)) := by
  refine lw_app ?_ (lw_meth h7)
  intro w hw
  simp only [List.mem_cons, List.not_mem_nil, or_false] at hw
  rcases hw with e | e | e | e | e | e <;> rw [e] <;> assumption
