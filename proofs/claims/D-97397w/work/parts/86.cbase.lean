/-! constructors: what they share -/
set_option maxRecDepth 100000
def AC (h sz q : Nat) : Prop := q = h ∨ sz ≤ q
theorem sm_RAi {s : State} {c d : ClassId} {ty : FieldType} (hp : ∀ C, ty ≠ .object C) (h1 : va_RA s c ty) (h2 : va_RA s d ty) : c = d := by
  cases ty with
  | object C => exact absurd rfl (hp C)
  | _ => exact Option.some.inj (Eq.trans (Eq.symm h1) h2)
theorem sm_cAi {g : GG} {s : State} {cA : ClassId} (hK : va_K (g.1, g.2.1) vwCl (tyL g) s) (h : va_K (g.1, g.2.1) vwCl (tyL g ++ [(cA, .int)]) s) : g.2.2 0 = cA := sm_RAi (fun _ h => by cases h) (hK.2 0 _ rfl).2 (h.2 7 _ rfl).2
theorem sm_cAb {g : GG} {s : State} {cA : ClassId} (hK : va_K (g.1, g.2.1) vwCl (tyL g) s) (h : va_K (g.1, g.2.1) vwCl (tyL g ++ [(cA, .byte)]) s) : g.2.2 1 = cA := sm_RAi (fun _ h => by cases h) (hK.2 1 _ rfl).2 (h.2 7 _ rfl).2
theorem sm_cAz {g : GG} {s : State} {cA : ClassId} (hK : va_K (g.1, g.2.1) vwCl (tyL g) s) (h : va_K (g.1, g.2.1) vwCl (tyL g ++ [(cA, .boolean)]) s) : g.2.2 2 = cA := sm_RAi (fun _ h => by cases h) (hK.2 2 _ rfl).2 (h.2 7 _ rfl).2
theorem sm_cAl {g : GG} {s : State} {cA : ClassId} (hK : va_K (g.1, g.2.1) vwCl (tyL g) s) (h : va_K (g.1, g.2.1) vwCl (tyL g ++ [(cA, .long)]) s) : g.2.2 3 = cA := sm_RAi (fun _ h => by cases h) (hK.2 3 _ rfl).2 (h.2 7 _ rfl).2
theorem sm_RAq {s : State} {c d : ClassId} {C : String} (h1 : va_RA s c (.object C)) (h2 : va_RA s d (.object C)) : c = d := by
  obtain ⟨_, _, _, _, _, h1⟩ := h1
  obtain ⟨_, _, _, _, _, h2⟩ := h2
  exact Option.some.inj (h1.symm.trans h2)
theorem sm_cAq4 {g : GG} {s : State} {cA : ClassId} (hK : va_K (g.1, g.2.1) vwCl (tyL g) s) (h : va_K (g.1, g.2.1) vwCl (tyL g ++ [(cA, .object RX2)]) s) : g.2.2 4 = cA := sm_RAq (hK.2 4 _ rfl).2 (h.2 7 _ rfl).2
theorem sm_cAq5 {g : GG} {s : State} {cA : ClassId} (hK : va_K (g.1, g.2.1) vwCl (tyL g) s) (h : va_K (g.1, g.2.1) vwCl (tyL g ++ [(cA, .object RX3)]) s) : g.2.2 5 = cA := sm_RAq (hK.2 5 _ rfl).2 (h.2 7 _ rfl).2
/-- a constructor has worked on the object that was made last -/
theorem sm_ctor {D : va_G} {cl : List vw_C} {A : Nat → Prop} {ws wn : va_W} {q : Nat} {e : va_E} {H H1 : Heap} (hP : va_P D cl (ws ++ [(q, e)]) H) (hD : va_D A (ws ++ [(q, e)])) (hA : ∀ x, H.size ≤ x → A x) (hk : ∀ x : Nat, x < H.size → ¬ AC q H.size x → H1[x]? = H[x]?) (hP1 : va_P D cl wn H1) (hD1 : va_D (AC q H.size) wn) : va_P D cl (ws ++ wn) H1 ∧ va_D A (ws ++ wn) := by
  have hne : ∀ (k : Nat) (p : Nat × va_E), ws[k]? = some p → p.1 ≠ q := by
    intro k p hp hpq
    have hlt : k < ws.length := (List.getElem?_eq_some_iff.mp hp).1
    have := hD.1 k ws.length p (q, e) (by rw [List.getElem?_append_left hlt]; exact hp) (by rw [List.getElem?_append_right (Nat.le_refl _)]; simp) hpq
    omega
  have h0 := (sm_Papp.mp hP).1
  have hin : ∀ (k : Nat) (p : Nat × va_E), ws[k]? = some p → ¬ AC q H.size p.1 := by
    intro k p hp hpq
    rcases hpq with h | h
    · exact hne k p hp h
    · exact absurd (h0 k p hp).lt (by omega)
  refine ⟨sm_Papp.mpr ⟨fun k p hp => (h0 k p hp).kept (hk p.1 (h0 k p hp).lt (hin k p hp)), hP1⟩, ?_⟩
  have hD0 : va_D A ws := by
    refine ⟨fun i j p r hi hj e => ?_, fun k p hp => ?_⟩
    · have hi' : i < ws.length := (List.getElem?_eq_some_iff.mp hi).1
      have hj' : j < ws.length := (List.getElem?_eq_some_iff.mp hj).1
      exact hD.1 i j p r (by rw [List.getElem?_append_left hi']; exact hi) (by rw [List.getElem?_append_left hj']; exact hj) e
    · have hk' : k < ws.length := (List.getElem?_eq_some_iff.mp hp).1
      exact hD.2 k p (by rw [List.getElem?_append_left hk']; exact hp)
  refine hD0.app (hD1.weaken fun k p hp h => ?_) fun i j p r hi hj e => ?_
  · rcases h with h | h
    · rw [h]; exact hD.2 ws.length (q, e) (by rw [List.getElem?_append_right (Nat.le_refl _)]; simp)
    · exact hA _ h
  · exact hin i p hi (e ▸ hD1.2 j r hj)
def MS0 : MS := (fun k => if k = 0 then 10 else if k = 1 then 2 else if k = 2 then 1 else 0, fun k => if k = 7 then upd (upd (upd (upd (upd (upd (fun _ => 0) 2 (-9)) 3 (-9)) 4 (-9)) 5 (-9)) 6 (-9)) 7 (-9) else fun _ => 0, 0, fun _ => 0)
def BZ : BS := (fun _ => 0, fun k => if k = 0 then upd (upd (upd (fun _ => 0) 0 10) 1 2) 2 1 else fun _ => 0)
def IZ : IS := (fun _ => 0, fun _ _ => 0)
theorem sm_WM0 (g : GG) (ad : Nat → Nat) : WM g ad MS0 = [(ad 0, .inr (9, [.int 10, .int 2, .int 1, .int 0, .ref (ad 4), .int 0, .ref (ad 6), .ref (ad 7), .ref (ad 8), .int 0, .ref (ad 10), .ref (ad 11), .int 0, .int 0, .ref (ad 14), .ref (ad 15), .long 0, .ref (ad 17), .int 0, .int 0, .int 0, .int 0, .int 0, .int 0, .int 0, .ref (ad 25), .int 0, .ref (ad 27), .ref (ad 28), .int 0, .ref (ad 30), .ref (ad 31), .ref (ad 32), .ref (ad 33), .ref (ad 34), .ref (ad 35), .ref (ad 36), .int 0, .ref (ad 38)])), (ad 4, .inl (g.2.2 0, 12, .inl (fun _ => 0))), (ad 6, .inl (g.2.2 0, 12, .inl (fun _ => 0))), (ad 7, .inl (g.2.2 0, 26, .inl (upd (upd (upd (upd (upd (upd (fun _ => 0) 2 (-9)) 3 (-9)) 4 (-9)) 5 (-9)) 6 (-9)) 7 (-9)))), (ad 8, .inl (g.2.2 0, 260, .inl (fun _ => 0))), (ad 10, .inl (g.2.2 0, 52, .inl (fun _ => 0))), (ad 11, .inl (g.2.2 2, 2, .inl (fun _ => 0))), (ad 14, .inl (g.2.2 0, 4, .inl (fun _ => 0))), (ad 15, .inl (g.2.2 0, 20, .inl (fun _ => 0))), (ad 17, .inl (g.2.2 0, 200, .inl (fun _ => 0))), (ad 25, .inl (g.2.2 0, 12, .inl (fun _ => 0))), (ad 27, .inl (g.2.2 0, 12, .inl (fun _ => 0))), (ad 28, .inl (g.2.2 0, 3, .inl (fun _ => 0))), (ad 30, .inl (g.2.2 0, 6, .inl (fun _ => 0))), (ad 31, .inl (g.2.2 0, 6, .inl (fun _ => 0))), (ad 32, .inl (g.2.2 0, 6, .inl (fun _ => 0))), (ad 33, .inl (g.2.2 0, 6, .inl (fun _ => 0))), (ad 34, .inl (g.2.2 3, 7, .inr (.inl (fun _ => 0)))), (ad 35, .inl (g.2.2 0, 5, .inl (fun _ => 0))), (ad 36, .inl (g.2.2 0, 5, .inl (fun _ => 0))), (ad 38, .inl (g.2.2 0, 4, .inl (fun _ => 0)))] := rfl
