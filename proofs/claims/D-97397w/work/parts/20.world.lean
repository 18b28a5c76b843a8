/-! the worlds of the walk -/
set_option maxRecDepth 100000
abbrev vwCl : List vw_C := [(RX0, TX0, 20), (RX1, TX1, 9), (RX2, TX2, 7), (RX3, TX3, 1), (RX4, TX4, 2), (RX5, TX5, 2), (RX6, TX6, 3), (RX7, TX7, 3), (RX8, TX8, 2), (RX9, TX9, 39), (RX10, TX10, 7), (RX11, TX11, 7)]
abbrev tyL (g : GG) : List (ClassId × FieldType) := [(g.2.2 0, .int), (g.2.2 1, .byte), (g.2.2 2, .boolean), (g.2.2 3, .long), (g.2.2 4, .object RX2), (g.2.2 5, .object RX3), (g.2.2 6, .array .int)]
abbrev PP (g : GG) (ws : va_W) (H : Heap) : Prop := va_P (g.1, g.2.1) vwCl ws H
/-- what holds of the tables all through: the classes, nest mates' links -/
def EV (g : GG) (U : State) : Prop := va_K (g.1, g.2.1) vwCl (tyL g) U ∧ sm_N U
theorem EV.same {g : GG} {u U : State} (h : u.vm = U.vm) (hE : EV g u) : EV g U := ⟨va_K.moved (by rw [h]; exact Vm.Alike.refl U.vm) hE.1, hE.2.same h⟩
theorem EV.warm {g : GG} {s U : State} (hW : s.WarmedH U.vm) (hE : EV g s) : EV g U := ⟨va_K.moved hW.alike hE.1, hE.2.warm hW⟩
theorem sm_st {l : Launch} {y : MethodName} {rm : Room} {Pc : Array Value → State → Prop} {Qc : Array Value → State → Outcome → State → Prop} {mc ms : Nat} {free : Addr → Prop} {cc : ByteArray} {maxL : Nat} {ret : Option FieldType} (hy : plainName y.cls = true)
    (body : ∀ (p : Program) (e : Env) (s : State) (m : MethodId) (args : Array Value) (below : List Frame) (meth : Method) (c : Code), p.tables.exec = Jvm.exec → c.code = cc → meth.sig.returnType = ret → meth.locks = false → c.maxLocals = maxL → s.vm.findClass y.cls = some m.cls → meth.name = y.name → (∀ w ∈ lw_all, w.before args s = true) → Pc args s →
      W p l e rm s m args below meth c s.heap [] 0 0 (MQ below Qc args s mc ms free) (entryFrame m args maxL)) : Met l y (ws_ y cc maxL ret) rm Pc Qc mc ms free := by
  refine Met.ofW (cc := cc) (maxL := maxL) (ret := ret) hy rfl ?_
  intro p e s m args below meth c s₁ B hml hv
  have hts := atoms_spec (ws := ws_ y cc maxL ret) B.pre
  exact body p e s m args below meth c B.exec B.bytes B.returns B.notSynchronized hml (findClass_of_methodNamed B.named) (name_of_methodNamed B.named B.method).1 (fun w h => hts w (List.mem_cons_of_mem _ h)) hv
theorem sm_en {p : Program} {l : Launch} {e : Env} {R : Room} {s : State} {m : MethodId} {args : Array Value} {below : List Frame} {meth : Method} {c : Code} {H : Heap} {locs : List Loc} {cells slots : Nat} {Q : State → Prop} {n : Nat} (vs : List Value) (h : (lg_sl vs).length ≤ n) (ha : args = vs.toArray)
    (k : ∀ ls : Array Slot, lv_has ls n (lv_args 0 vs) → W p l e R s m args below meth c H locs cells slots Q (F0 m 0 ls [])) : W p l e R s m args below meth c H locs cells slots Q (entryFrame m args n) := by
  have he : entryFrame m args n = F0 m 0 ((lg_sl vs ++ List.replicate (n - (lg_sl vs).length) Slot.unset).toArray) [] := by rw [ha, lg_entry_eq]
  exact W.eq he (k _ (lv_entry vs h))
theorem sm_ps {s : State} {H : Heap} {As : List Value} : PreS s H (va_Pc As (fun _ => True)) As := ⟨fun _ _ _ _ q => q, fun _ _ _ => ⟨rfl, trivial⟩⟩
theorem sm_calling (U : State) (g : JFrame) (mk : MethodId) (a : Array Value) : U.vm = (U.calling g mk a).vm := rfl
theorem sm_pv {g : GG} {ws : va_W} {s : State} {H : Heap} {C : String} {b : Nat} {As : List Value} (hE : EV g s) (hP : PP g ws H) (hr : ∃ cell : Cell, H[b]? = some cell ∧ cell.vm.isStatics = false ∧ s.vm.findClass C = some cell.cls) : PreV s H C b (va_Pc (.ref b :: As) (fun U => PP g ws U.heap ∧ EV g U)) As :=
  ⟨fun a U g' mk q => ⟨q.1, q.2.1, q.2.2.same (sm_calling U g' mk a)⟩, hr, fun U hU hW => ⟨rfl, by rw [hU]; exact hP, hE.warm hW⟩⟩
theorem sm_pe {g : GG} {ws : va_W} {s : State} {H : Heap} {C : String} {b : Nat} {As : List Value} {A : Nat → Prop} (hE : EV g s) (hP : PP g ws H) (hD : va_D A ws) (hr : ∃ cell : Cell, H[b]? = some cell ∧ cell.vm.isStatics = false ∧ s.vm.findClass C = some cell.cls) : PreV s H C b (va_Pc (.ref b :: As) (fun U => PP g ws U.heap ∧ EV g U ∧ va_D A ws)) As :=
  ⟨fun a U g' mk q => ⟨q.1, q.2.1, q.2.2.1.same (sm_calling U g' mk a), q.2.2.2⟩, hr, fun U hU hW => ⟨rfl, by rw [hU]; exact hP, hE.warm hW, hD⟩⟩
theorem sm_out6 {x : Int32} (h0 : ¬ x = 0) (h1 : ¬ x = 1) (h2 : ¬ x = 2) (h3 : ¬ x = 3) (h4 : ¬ x = 4) (h5 : ¬ x = 5) : x.toInt < 0 ∨ 5 < x.toInt := by
  have a0 := lv_neT h0 (a := 0) rfl; have a1 := lv_neT h1 (a := 1) rfl; have a2 := lv_neT h2 (a := 2) rfl; have a3 := lv_neT h3 (a := 3) rfl; have a4 := lv_neT h4 (a := 4) rfl; have a5 := lv_neT h5 (a := 5) rfl
  omega
theorem sm_out5 {x : Int32} (h0 : ¬ x = 0) (h1 : ¬ x = 1) (h2 : ¬ x = 2) (h3 : ¬ x = 3) (h4 : ¬ x = 4) : x.toInt < 0 ∨ 4 < x.toInt := by
  have a0 := lv_neT h0 (a := 0) rfl; have a1 := lv_neT h1 (a := 1) rfl; have a2 := lv_neT h2 (a := 2) rfl; have a3 := lv_neT h3 (a := 3) rfl; have a4 := lv_neT h4 (a := 4) rfl
  omega
theorem sm_out8 {x : Int32} (h0 : ¬ x = 0) (h1 : ¬ x = 1) (h2 : ¬ x = 2) (h3 : ¬ x = 3) (h4 : ¬ x = 4) (h5 : ¬ x = 5) (h6 : ¬ x = 6) (h7 : ¬ x = 7) : x.toInt < 0 ∨ 7 < x.toInt := by
  have a0 := lv_neT h0 (a := 0) rfl; have a1 := lv_neT h1 (a := 1) rfl; have a2 := lv_neT h2 (a := 2) rfl; have a3 := lv_neT h3 (a := 3) rfl; have a4 := lv_neT h4 (a := 4) rfl; have a5 := lv_neT h5 (a := 5) rfl; have a6 := lv_neT h6 (a := 6) rfl; have a7 := lv_neT h7 (a := 7) rfl
  omega
/-! SmokedLettersModel: its ints (by field), its arrays (by field), its trace, 'sick' -/
abbrev MS : Type := (Nat → Int32) × (Nat → Nat → Int32) × Int64 × (Nat → Int64)
def mv (S : MS) (k : Nat) (x : Int32) : MS := (va_up S.1 k x, S.2)
def ma (S : MS) (k i : Nat) (x : Int32) : MS := (S.1, va_up S.2.1 k (upd (S.2.1 k) i x), S.2.2)
def mt (S : MS) (x : Int64) : MS := (S.1, S.2.1, x, S.2.2.2)
def mk (S : MS) (i : Nat) (x : Int64) : MS := (S.1, S.2.1, S.2.2.1, vp_updL S.2.2.2 i x)
def AM (ad : Nat → Nat) (q : Nat) : Prop := ∃ k, k < 39 ∧ q = ad k
abbrev WM (g : GG) (ad : Nat → Nat) (S : MS) : va_W := [(ad 0, .inr (9, [.int (S.1 0), .int (S.1 1), .int (S.1 2), .int (S.1 3), .ref (ad 4), .int (S.1 5), .ref (ad 6), .ref (ad 7), .ref (ad 8), .int (S.1 9), .ref (ad 10), .ref (ad 11), .int (S.1 12), .int (S.1 13), .ref (ad 14), .ref (ad 15), .long S.2.2.1, .ref (ad 17), .int (S.1 18), .int (S.1 19), .int (S.1 20), .int (S.1 21), .int (S.1 22), .int (S.1 23), .int (S.1 24), .ref (ad 25), .int (S.1 26), .ref (ad 27), .ref (ad 28), .int (S.1 29), .ref (ad 30), .ref (ad 31), .ref (ad 32), .ref (ad 33), .ref (ad 34), .ref (ad 35), .ref (ad 36), .int (S.1 37), .ref (ad 38)])), (ad 4, .inl (g.2.2 0, 12, .inl (S.2.1 4))), (ad 6, .inl (g.2.2 0, 12, .inl (S.2.1 6))), (ad 7, .inl (g.2.2 0, 26, .inl (S.2.1 7))), (ad 8, .inl (g.2.2 0, 260, .inl (S.2.1 8))), (ad 10, .inl (g.2.2 0, 52, .inl (S.2.1 10))), (ad 11, .inl (g.2.2 2, 2, .inl (S.2.1 11))), (ad 14, .inl (g.2.2 0, 4, .inl (S.2.1 14))), (ad 15, .inl (g.2.2 0, 20, .inl (S.2.1 15))), (ad 17, .inl (g.2.2 0, 200, .inl (S.2.1 17))), (ad 25, .inl (g.2.2 0, 12, .inl (S.2.1 25))), (ad 27, .inl (g.2.2 0, 12, .inl (S.2.1 27))), (ad 28, .inl (g.2.2 0, 3, .inl (S.2.1 28))), (ad 30, .inl (g.2.2 0, 6, .inl (S.2.1 30))), (ad 31, .inl (g.2.2 0, 6, .inl (S.2.1 31))), (ad 32, .inl (g.2.2 0, 6, .inl (S.2.1 32))), (ad 33, .inl (g.2.2 0, 6, .inl (S.2.1 33))), (ad 34, .inl (g.2.2 3, 7, .inr (.inl S.2.2.2))), (ad 35, .inl (g.2.2 0, 5, .inl (S.2.1 35))), (ad 36, .inl (g.2.2 0, 5, .inl (S.2.1 36))), (ad 38, .inl (g.2.2 0, 4, .inl (S.2.1 38)))]
