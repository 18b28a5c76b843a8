/-! what stands outside of the system's cells: statics and the text "qrbtk" -/
set_option maxRecDepth 100000
def sm_most (j : Nat) : Int32 := if j = 0 then 40 else if j = 1 then 3 else 9
def sm_qr (j : Nat) : Int32 := ([113, 114, 98, 116, 107] : List Int32).getD j 0
def sm_ref (v : Value) : Prop := v = .null ∨ ∃ a, v = .ref a
abbrev ZZ : Type := Nat × Nat × Nat × Value × Value
def ZO (z : ZZ) (A : Nat → Prop) (U : State) (H : Heap) : Prop :=
  va_Z RX0 "MOST" "[I" (.ref z.1) A U H ∧ va_T .int z.1 3 (fun j => .int (sm_most j)) A U H ∧
  va_Z "java/lang/String" "COMPACT_STRINGS" "Z" (.int 1) A U H ∧ vk_R RX10 56 "qrbtk" z.2.1 U ∧
  vk_S 1 [5] [[113, 114, 98, 116, 107]] (fun _ => z.2.1) (fun _ => z.2.2.1) A U H ∧
  va_Z "java/lang/Throwable" "UNASSIGNED_STACK" "[Ljava/lang/StackTraceElement;" z.2.2.2.1 A U H ∧
  va_Z "java/lang/Throwable" "SUPPRESSED_SENTINEL" "Ljava/util/List;" z.2.2.2.2 A U H ∧ sm_ref z.2.2.2.1 ∧ sm_ref z.2.2.2.2
theorem ZO.kept {z : ZZ} {A : Nat → Prop} {U : State} {H H1 : Heap} (h : ZO z A U H) (hq : ∀ a : Nat, a < H.size → ¬ A a → H1[a]? = H[a]?) : ZO z A U H1 :=
  ⟨h.1.kept hq, h.2.1.kept hq, h.2.2.1.kept hq, h.2.2.2.1, h.2.2.2.2.1.kept hq, h.2.2.2.2.2.1.kept hq, h.2.2.2.2.2.2.1.kept hq, h.2.2.2.2.2.2.2⟩
theorem ZO.narrow {z : ZZ} {A B : Nat → Prop} {U : State} {H : Heap} (h : ZO z A U H) (hq : ∀ q, B q → A q) : ZO z B U H :=
  ⟨h.1.narrow hq, h.2.1.narrow hq, h.2.2.1.narrow hq, h.2.2.2.1, h.2.2.2.2.1.narrow hq, h.2.2.2.2.2.1.narrow hq, h.2.2.2.2.2.2.1.narrow hq, h.2.2.2.2.2.2.2⟩
theorem ZO.warm {z : ZZ} {A : Nat → Prop} {s U : State} {H : Heap} (hW : s.WarmedH U.vm) (h : ZO z A s H) : ZO z A U H :=
  ⟨h.1.moved hW.alike, h.2.1.moved hW.alike, h.2.2.1.moved hW.alike, h.2.2.2.1.warm hW, h.2.2.2.2.1.moved hW.alike, h.2.2.2.2.2.1.moved hW.alike, h.2.2.2.2.2.2.1.moved hW.alike, h.2.2.2.2.2.2.2⟩
theorem ZO.same {z : ZZ} {A : Nat → Prop} {s U : State} {H : Heap} (hv : s.vm = U.vm) (h : ZO z A s H) : ZO z A U H := by
  have ha : s.vm.Alike U.vm := by rw [hv]; exact Vm.Alike.refl U.vm
  exact ⟨h.1.moved ha, h.2.1.moved ha, h.2.2.1.moved ha, h.2.2.2.1.same hv.symm, h.2.2.2.2.1.moved ha, h.2.2.2.2.2.1.moved ha, h.2.2.2.2.2.2.1.moved ha, h.2.2.2.2.2.2.2⟩
theorem ZO.value {z : ZZ} {A : Nat → Prop} {U : State} {H : Heap} (h : ZO z A U H) : va_OF "java/lang/String" "value" "[B" (.ref z.2.2.1) z.2.1 A U H := (h.2.2.2.2.1.1 0 (by decide)).2.2.1
theorem ZO.coder {z : ZZ} {A : Nat → Prop} {U : State} {H : Heap} (h : ZO z A U H) : va_OF "java/lang/String" "coder" "B" (.int 0) z.2.1 A U H := (h.2.2.2.2.1.1 0 (by decide)).2.1
theorem ZO.bytes {z : ZZ} {A : Nat → Prop} {U : State} {H : Heap} (h : ZO z A U H) : va_T .byte z.2.2.1 5 (fun j => .int (sm_qr j)) A U H := (h.2.2.2.2.1.1 0 (by decide)).2.2.2
/-- at the heap where a walk stands -/
theorem ZO.at {z : ZZ} {A : Nat → Prop} {s U : State} {H : Heap} {locs : List Loc} (h : ZO z A s s.heap) (hS : va_S A s.heap H locs) (hU : U.heap = H) (hW : s.WarmedH U.vm) : ZO z A U U.heap := by
  rw [hU]
  exact (h.kept hS.2.1).warm hW
theorem sm_pz {z : ZZ} {A : Nat → Prop} {s : State} {H : Heap} {locs : List Loc} {As : List Value} (hZ : ZO z A s s.heap) (hS : va_S A s.heap H locs) : PreS s H (va_Pc As (fun Ux => ZO z A Ux Ux.heap)) As :=
  ⟨fun a U g' mk q => ⟨q.1, q.2.same (sm_calling U g' mk a)⟩, fun U hU hW => ⟨rfl, hZ.at hS hU hW⟩⟩
theorem sm_pzV {z : ZZ} {A : Nat → Prop} {s : State} {H : Heap} {locs : List Loc} {As : List Value} (hZ : ZO z A s s.heap) (hS : va_S A s.heap H locs) : PreV s H "java/lang/String" z.2.1 (va_Pc (.ref z.2.1 :: As) (fun Ux => ZO z A Ux Ux.heap)) As :=
  ⟨(sm_pz hZ hS).1, vk_recv hZ.2.2.2.2.1 (i := 0) (by decide) hS, (sm_pz hZ hS).2⟩
