/-! the worlds of SmokedLetters: this, its book, arrays, kinds (29 cells), then its islands (four cells each): now, tried, two images, ten before -/
set_option maxRecDepth 100000
abbrev BS : Type := (Nat → Int32) × (Nat → Nat → Int32)
abbrev IS : Type := (Nat → Int32) × (Nat → Nat → Int32)
/-- ints by field, arrays by field (brown's rows 40..43), islands, trace, book, which island stands at a place of 'before' -/
abbrev XS : Type := (Nat → Int32) × (Nat → Nat → Int32) × (Nat → IS) × Int64 × BS × (Nat → Nat)
def iv (T : IS) (k : Nat) (x : Int32) : IS := (va_up T.1 k x, T.2)
def ia (T : IS) (k i : Nat) (x : Int32) : IS := (T.1, va_up T.2 k (upd (T.2 k) i x))
def ir (T : IS) (k : Nat) (f : Nat → Int32) : IS := (T.1, va_up T.2 k f)
def xv (S : XS) (k : Nat) (x : Int32) : XS := (va_up S.1 k x, S.2)
def xa (S : XS) (k i : Nat) (x : Int32) : XS := (S.1, va_up S.2.1 k (upd (S.2.1 k) i x), S.2.2)
def xr (S : XS) (k : Nat) (f : Nat → Int32) : XS := (S.1, va_up S.2.1 k f, S.2.2)
def xi (S : XS) (j : Nat) (T : IS) : XS := (S.1, S.2.1, va_up S.2.2.1 j T, S.2.2.2)
def xt (S : XS) (x : Int64) : XS := (S.1, S.2.1, S.2.2.1, x, S.2.2.2.2)
def xb (S : XS) (B : BS) : XS := (S.1, S.2.1, S.2.2.1, S.2.2.2.1, B, S.2.2.2.2.2)
def xp (S : XS) (pm : Nat → Nat) : XS := (S.1, S.2.1, S.2.2.1, S.2.2.2.1, S.2.2.2.2.1, pm)
abbrev WB (g : GG) (b : Nat → Nat) (B : BS) : va_W := [((b 0), .inr (1, [.ref (b 1), .ref (b 2), .ref (b 3), .ref (b 4), .ref (b 5), .ref (b 6), .int (B.1 6), .int (B.1 7), .int (B.1 8)])), ((b 1), .inl (g.2.2 0, 3, .inl (B.2 0))), ((b 2), .inl (g.2.2 0, 6, .inl (B.2 1))), ((b 3), .inl (g.2.2 0, 6, .inl (B.2 2))), ((b 4), .inl (g.2.2 0, 4, .inl (B.2 3))), ((b 5), .inl (g.2.2 0, 4, .inl (B.2 4))), ((b 6), .inl (g.2.2 0, 4, .inl (B.2 5)))]
abbrev WI (g : GG) (a : Nat → Nat) (T : IS) : va_W := [((a 0), .inr (2, [.int (T.1 0), .int (T.1 1), .int (T.1 2), .ref (a 1), .ref (a 2), .ref (a 3), .int (T.1 6)])), ((a 1), .inl (g.2.2 0, 6, .inl (T.2 3))), ((a 2), .inl (g.2.2 0, 6, .inl (T.2 4))), ((a 3), .inl (g.2.2 0, 5, .inl (T.2 5)))]
abbrev WX0 (g : GG) (ad : Nat → Nat) (S : XS) : va_W := [((ad 0), .inr (0, [.ref (ad 1), .ref (ad 29), .ref (ad 33), .ref (ad 20), .int (S.1 4), .ref (ad 21), .ref (ad 8), .ref (ad 9), .int (S.1 8), .ref (ad 10), .ref (ad 11), .ref (ad 16), .int (S.1 12), .int (S.1 13), .ref (ad 17), .int (S.1 15), .ref (ad 18), .ref (ad 19), .long S.2.2.2.1, .ref (ad 22)])), ((ad 1), .inr (1, [.ref (ad 2), .ref (ad 3), .ref (ad 4), .ref (ad 5), .ref (ad 6), .ref (ad 7), .int (S.2.2.2.2.1.1 6), .int (S.2.2.2.2.1.1 7), .int (S.2.2.2.2.1.1 8)])), ((ad 2), .inl (g.2.2 0, 3, .inl (S.2.2.2.2.1.2 0))), ((ad 3), .inl (g.2.2 0, 6, .inl (S.2.2.2.2.1.2 1))), ((ad 4), .inl (g.2.2 0, 6, .inl (S.2.2.2.2.1.2 2))), ((ad 5), .inl (g.2.2 0, 4, .inl (S.2.2.2.2.1.2 3))), ((ad 6), .inl (g.2.2 0, 4, .inl (S.2.2.2.2.1.2 4))), ((ad 7), .inl (g.2.2 0, 4, .inl (S.2.2.2.2.1.2 5))), ((ad 8), .inl (g.2.2 2, 2, .inl (S.2.1 6))), ((ad 9), .inl (g.2.2 1, 200, .inl (S.2.1 7))), ((ad 10), .inl (g.2.2 0, 6, .inl (S.2.1 9))), ((ad 11), .inl (g.2.2 6, 4, .inr (.inr (.inr (.inr (fun i => some (ad (12 + i)))))))), ((ad 12), .inl (g.2.2 0, 5, .inl (S.2.1 40))), ((ad 13), .inl (g.2.2 0, 5, .inl (S.2.1 41))), ((ad 14), .inl (g.2.2 0, 5, .inl (S.2.1 42))), ((ad 15), .inl (g.2.2 0, 5, .inl (S.2.1 43))), ((ad 16), .inl (g.2.2 0, 4, .inl (S.2.1 11))), ((ad 17), .inl (g.2.2 0, 5, .inl (S.2.1 14))), ((ad 18), .inl (g.2.2 0, 4, .inl (S.2.1 16))), ((ad 19), .inl (g.2.2 0, 4, .inl (S.2.1 17))), ((ad 20), .inl (g.2.2 4, 10, .inr (.inr (.inr (.inr (fun i => some (ad (29 + 4 * S.2.2.2.2.2 i)))))))), ((ad 21), .inl (g.2.2 4, 2, .inr (.inr (.inr (.inr (fun i => some (ad (29 + 4 * (2 + i))))))))), ((ad 22), .inl (g.2.2 5, 6, .inr (.inr (.inr (.inr (fun i => some (ad (23 + i)))))))), ((ad 23), .inr (3, [.ref (ad 0)])), ((ad 24), .inr (4, [.ref (ad 0), .ref (ad 0)])), ((ad 25), .inr (5, [.ref (ad 0), .ref (ad 0)])), ((ad 26), .inr (6, [.ref (ad 0), .ref (ad 0), .ref (ad 0)])), ((ad 27), .inr (7, [.ref (ad 0), .ref (ad 0), .ref (ad 0)])), ((ad 28), .inr (8, [.ref (ad 0), .ref (ad 0)]))]
abbrev WX (g : GG) (ad : Nat → Nat) (S : XS) : va_W := [((ad 0), .inr (0, [.ref (ad 1), .ref (ad 29), .ref (ad 33), .ref (ad 20), .int (S.1 4), .ref (ad 21), .ref (ad 8), .ref (ad 9), .int (S.1 8), .ref (ad 10), .ref (ad 11), .ref (ad 16), .int (S.1 12), .int (S.1 13), .ref (ad 17), .int (S.1 15), .ref (ad 18), .ref (ad 19), .long S.2.2.2.1, .ref (ad 22)])), ((ad 1), .inr (1, [.ref (ad 2), .ref (ad 3), .ref (ad 4), .ref (ad 5), .ref (ad 6), .ref (ad 7), .int (S.2.2.2.2.1.1 6), .int (S.2.2.2.2.1.1 7), .int (S.2.2.2.2.1.1 8)])), ((ad 2), .inl (g.2.2 0, 3, .inl (S.2.2.2.2.1.2 0))), ((ad 3), .inl (g.2.2 0, 6, .inl (S.2.2.2.2.1.2 1))), ((ad 4), .inl (g.2.2 0, 6, .inl (S.2.2.2.2.1.2 2))), ((ad 5), .inl (g.2.2 0, 4, .inl (S.2.2.2.2.1.2 3))), ((ad 6), .inl (g.2.2 0, 4, .inl (S.2.2.2.2.1.2 4))), ((ad 7), .inl (g.2.2 0, 4, .inl (S.2.2.2.2.1.2 5))), ((ad 8), .inl (g.2.2 2, 2, .inl (S.2.1 6))), ((ad 9), .inl (g.2.2 1, 200, .inl (S.2.1 7))), ((ad 10), .inl (g.2.2 0, 6, .inl (S.2.1 9))), ((ad 11), .inl (g.2.2 6, 4, .inr (.inr (.inr (.inr (fun i => some (ad (12 + i)))))))), ((ad 12), .inl (g.2.2 0, 5, .inl (S.2.1 40))), ((ad 13), .inl (g.2.2 0, 5, .inl (S.2.1 41))), ((ad 14), .inl (g.2.2 0, 5, .inl (S.2.1 42))), ((ad 15), .inl (g.2.2 0, 5, .inl (S.2.1 43))), ((ad 16), .inl (g.2.2 0, 4, .inl (S.2.1 11))), ((ad 17), .inl (g.2.2 0, 5, .inl (S.2.1 14))), ((ad 18), .inl (g.2.2 0, 4, .inl (S.2.1 16))), ((ad 19), .inl (g.2.2 0, 4, .inl (S.2.1 17))), ((ad 20), .inl (g.2.2 4, 10, .inr (.inr (.inr (.inr (fun i => some (ad (29 + 4 * S.2.2.2.2.2 i)))))))), ((ad 21), .inl (g.2.2 4, 2, .inr (.inr (.inr (.inr (fun i => some (ad (29 + 4 * (2 + i))))))))), ((ad 22), .inl (g.2.2 5, 6, .inr (.inr (.inr (.inr (fun i => some (ad (23 + i)))))))), ((ad 23), .inr (3, [.ref (ad 0)])), ((ad 24), .inr (4, [.ref (ad 0), .ref (ad 0)])), ((ad 25), .inr (5, [.ref (ad 0), .ref (ad 0)])), ((ad 26), .inr (6, [.ref (ad 0), .ref (ad 0), .ref (ad 0)])), ((ad 27), .inr (7, [.ref (ad 0), .ref (ad 0), .ref (ad 0)])), ((ad 28), .inr (8, [.ref (ad 0), .ref (ad 0)])), ((ad 29), .inr (2, [.int ((S.2.2.1 0).1 0), .int ((S.2.2.1 0).1 1), .int ((S.2.2.1 0).1 2), .ref (ad 30), .ref (ad 31), .ref (ad 32), .int ((S.2.2.1 0).1 6)])), ((ad 30), .inl (g.2.2 0, 6, .inl ((S.2.2.1 0).2 3))), ((ad 31), .inl (g.2.2 0, 6, .inl ((S.2.2.1 0).2 4))), ((ad 32), .inl (g.2.2 0, 5, .inl ((S.2.2.1 0).2 5))), ((ad 33), .inr (2, [.int ((S.2.2.1 1).1 0), .int ((S.2.2.1 1).1 1), .int ((S.2.2.1 1).1 2), .ref (ad 34), .ref (ad 35), .ref (ad 36), .int ((S.2.2.1 1).1 6)])), ((ad 34), .inl (g.2.2 0, 6, .inl ((S.2.2.1 1).2 3))), ((ad 35), .inl (g.2.2 0, 6, .inl ((S.2.2.1 1).2 4))), ((ad 36), .inl (g.2.2 0, 5, .inl ((S.2.2.1 1).2 5))), ((ad 37), .inr (2, [.int ((S.2.2.1 2).1 0), .int ((S.2.2.1 2).1 1), .int ((S.2.2.1 2).1 2), .ref (ad 38), .ref (ad 39), .ref (ad 40), .int ((S.2.2.1 2).1 6)])), ((ad 38), .inl (g.2.2 0, 6, .inl ((S.2.2.1 2).2 3))), ((ad 39), .inl (g.2.2 0, 6, .inl ((S.2.2.1 2).2 4))), ((ad 40), .inl (g.2.2 0, 5, .inl ((S.2.2.1 2).2 5))), ((ad 41), .inr (2, [.int ((S.2.2.1 3).1 0), .int ((S.2.2.1 3).1 1), .int ((S.2.2.1 3).1 2), .ref (ad 42), .ref (ad 43), .ref (ad 44), .int ((S.2.2.1 3).1 6)])), ((ad 42), .inl (g.2.2 0, 6, .inl ((S.2.2.1 3).2 3))), ((ad 43), .inl (g.2.2 0, 6, .inl ((S.2.2.1 3).2 4))), ((ad 44), .inl (g.2.2 0, 5, .inl ((S.2.2.1 3).2 5))), ((ad 45), .inr (2, [.int ((S.2.2.1 4).1 0), .int ((S.2.2.1 4).1 1), .int ((S.2.2.1 4).1 2), .ref (ad 46), .ref (ad 47), .ref (ad 48), .int ((S.2.2.1 4).1 6)])), ((ad 46), .inl (g.2.2 0, 6, .inl ((S.2.2.1 4).2 3))), ((ad 47), .inl (g.2.2 0, 6, .inl ((S.2.2.1 4).2 4))), ((ad 48), .inl (g.2.2 0, 5, .inl ((S.2.2.1 4).2 5))), ((ad 49), .inr (2, [.int ((S.2.2.1 5).1 0), .int ((S.2.2.1 5).1 1), .int ((S.2.2.1 5).1 2), .ref (ad 50), .ref (ad 51), .ref (ad 52), .int ((S.2.2.1 5).1 6)])), ((ad 50), .inl (g.2.2 0, 6, .inl ((S.2.2.1 5).2 3))), ((ad 51), .inl (g.2.2 0, 6, .inl ((S.2.2.1 5).2 4))), ((ad 52), .inl (g.2.2 0, 5, .inl ((S.2.2.1 5).2 5))), ((ad 53), .inr (2, [.int ((S.2.2.1 6).1 0), .int ((S.2.2.1 6).1 1), .int ((S.2.2.1 6).1 2), .ref (ad 54), .ref (ad 55), .ref (ad 56), .int ((S.2.2.1 6).1 6)])), ((ad 54), .inl (g.2.2 0, 6, .inl ((S.2.2.1 6).2 3))), ((ad 55), .inl (g.2.2 0, 6, .inl ((S.2.2.1 6).2 4))), ((ad 56), .inl (g.2.2 0, 5, .inl ((S.2.2.1 6).2 5))), ((ad 57), .inr (2, [.int ((S.2.2.1 7).1 0), .int ((S.2.2.1 7).1 1), .int ((S.2.2.1 7).1 2), .ref (ad 58), .ref (ad 59), .ref (ad 60), .int ((S.2.2.1 7).1 6)])), ((ad 58), .inl (g.2.2 0, 6, .inl ((S.2.2.1 7).2 3))), ((ad 59), .inl (g.2.2 0, 6, .inl ((S.2.2.1 7).2 4))), ((ad 60), .inl (g.2.2 0, 5, .inl ((S.2.2.1 7).2 5))), ((ad 61), .inr (2, [.int ((S.2.2.1 8).1 0), .int ((S.2.2.1 8).1 1), .int ((S.2.2.1 8).1 2), .ref (ad 62), .ref (ad 63), .ref (ad 64), .int ((S.2.2.1 8).1 6)])), ((ad 62), .inl (g.2.2 0, 6, .inl ((S.2.2.1 8).2 3))), ((ad 63), .inl (g.2.2 0, 6, .inl ((S.2.2.1 8).2 4))), ((ad 64), .inl (g.2.2 0, 5, .inl ((S.2.2.1 8).2 5))), ((ad 65), .inr (2, [.int ((S.2.2.1 9).1 0), .int ((S.2.2.1 9).1 1), .int ((S.2.2.1 9).1 2), .ref (ad 66), .ref (ad 67), .ref (ad 68), .int ((S.2.2.1 9).1 6)])), ((ad 66), .inl (g.2.2 0, 6, .inl ((S.2.2.1 9).2 3))), ((ad 67), .inl (g.2.2 0, 6, .inl ((S.2.2.1 9).2 4))), ((ad 68), .inl (g.2.2 0, 5, .inl ((S.2.2.1 9).2 5))), ((ad 69), .inr (2, [.int ((S.2.2.1 10).1 0), .int ((S.2.2.1 10).1 1), .int ((S.2.2.1 10).1 2), .ref (ad 70), .ref (ad 71), .ref (ad 72), .int ((S.2.2.1 10).1 6)])), ((ad 70), .inl (g.2.2 0, 6, .inl ((S.2.2.1 10).2 3))), ((ad 71), .inl (g.2.2 0, 6, .inl ((S.2.2.1 10).2 4))), ((ad 72), .inl (g.2.2 0, 5, .inl ((S.2.2.1 10).2 5))), ((ad 73), .inr (2, [.int ((S.2.2.1 11).1 0), .int ((S.2.2.1 11).1 1), .int ((S.2.2.1 11).1 2), .ref (ad 74), .ref (ad 75), .ref (ad 76), .int ((S.2.2.1 11).1 6)])), ((ad 74), .inl (g.2.2 0, 6, .inl ((S.2.2.1 11).2 3))), ((ad 75), .inl (g.2.2 0, 6, .inl ((S.2.2.1 11).2 4))), ((ad 76), .inl (g.2.2 0, 5, .inl ((S.2.2.1 11).2 5))), ((ad 77), .inr (2, [.int ((S.2.2.1 12).1 0), .int ((S.2.2.1 12).1 1), .int ((S.2.2.1 12).1 2), .ref (ad 78), .ref (ad 79), .ref (ad 80), .int ((S.2.2.1 12).1 6)])), ((ad 78), .inl (g.2.2 0, 6, .inl ((S.2.2.1 12).2 3))), ((ad 79), .inl (g.2.2 0, 6, .inl ((S.2.2.1 12).2 4))), ((ad 80), .inl (g.2.2 0, 5, .inl ((S.2.2.1 12).2 5))), ((ad 81), .inr (2, [.int ((S.2.2.1 13).1 0), .int ((S.2.2.1 13).1 1), .int ((S.2.2.1 13).1 2), .ref (ad 82), .ref (ad 83), .ref (ad 84), .int ((S.2.2.1 13).1 6)])), ((ad 82), .inl (g.2.2 0, 6, .inl ((S.2.2.1 13).2 3))), ((ad 83), .inl (g.2.2 0, 6, .inl ((S.2.2.1 13).2 4))), ((ad 84), .inl (g.2.2 0, 5, .inl ((S.2.2.1 13).2 5)))]
def ai (ad : Nat → Nat) (j c : Nat) : Nat := ad (29 + 4 * j + c)
def bd (ad : Nat → Nat) (c : Nat) : Nat := ad (1 + c)
def AI (a : Nat → Nat) (q : Nat) : Prop := ∃ c, c < 4 ∧ q = a c
def AB (b : Nat → Nat) (q : Nat) : Prop := ∃ c, c < 7 ∧ q = b c
def AIB (a b : Nat → Nat) (q : Nat) : Prop := AI a q ∨ AB b q
def AII (a b : Nat → Nat) (q : Nat) : Prop := AI a q ∨ AI b q
def AX (ad : Nat → Nat) (q : Nat) : Prop := ∃ k, k < 85 ∧ q = ad k
def IX (ad : Nat → Nat) : Prop := ∀ i j, i < 85 → j < 85 → ad i = ad j → i = j
theorem sm_Pm {D : va_G} {cl : List vw_C} {ws : va_W} {H : Heap} : va_P D cl ws H ↔ ∀ q ∈ ws, va_at D cl q H := by
  constructor
  · intro h q hq
    obtain ⟨k, hk⟩ := List.mem_iff_getElem?.mp hq
    exact h k q hk
  · intro h k q hk
    exact h q (List.mem_of_getElem? hk)
theorem sm_Papp {D : va_G} {cl : List vw_C} {a b : va_W} {H : Heap} : va_P D cl (a ++ b) H ↔ va_P D cl a H ∧ va_P D cl b H := by
  rw [sm_Pm, sm_Pm, sm_Pm]
  constructor
  · intro h
    exact ⟨fun q hq => h q (List.mem_append_left _ hq), fun q hq => h q (List.mem_append_right _ hq)⟩
  · intro h q hq
    rcases List.mem_append.mp hq with e | e
    · exact h.1 q e
    · exact h.2 q e
theorem sm_fst {ws : va_W} {f : Nat → Nat} {n : Nat} (h : ws.map (·.1) = (List.range n).map f) {q : Nat × va_E} (hq : q ∈ ws) : ∃ k, k < n ∧ q.1 = f k := by
  have h1 : q.1 ∈ ws.map (·.1) := List.mem_map_of_mem hq
  rw [h] at h1
  obtain ⟨k, hk, e⟩ := List.mem_map.mp h1
  exact ⟨k, List.mem_range.mp hk, e.symm⟩
theorem sm_at1 {ws : va_W} {f : Nat → Nat} {n : Nat} (h : ws.map (·.1) = (List.range n).map f) (k : Nat) (q : Nat × va_E) (hq : ws[k]? = some q) : k < n ∧ q.1 = f k := by
  have h1 : (ws.map (·.1))[k]? = some q.1 := by rw [List.getElem?_map, hq]; rfl
  rw [h, List.getElem?_map] at h1
  by_cases hk : k < n
  · rw [List.getElem?_range hk] at h1
    exact ⟨hk, (Option.some.inj h1).symm⟩
  · rw [List.getElem?_eq_none (by rw [List.length_range]; omega)] at h1
    cases h1
theorem sm_at2 {ws : va_W} {f : Nat → Nat} {n : Nat} (h : ws.map (·.1) = (List.range n).map f) {k : Nat} (hk : k < n) : ∃ q, ws[k]? = some q ∧ q.1 = f k := by
  have h1 : (ws.map (·.1))[k]? = some (f k) := by rw [h, List.getElem?_map, List.getElem?_range hk]; rfl
  rw [List.getElem?_map] at h1
  cases hq : ws[k]? with
  | none => rw [hq] at h1; cases h1
  | some q => rw [hq] at h1; exact ⟨q, rfl, Option.some.inj h1⟩
theorem sm_D {ws : va_W} {f : Nat → Nat} {n : Nat} {A : Nat → Prop} (h : ws.map (·.1) = (List.range n).map f) : va_D A ws ↔ (∀ i j, i < n → j < n → f i = f j → i = j) ∧ ∀ i, i < n → A (f i) := by
  constructor
  · intro hD
    refine ⟨fun i j hi hj e => ?_, fun i hi => ?_⟩
    · obtain ⟨q1, h1, e1⟩ := sm_at2 h hi
      obtain ⟨q2, h2, e2⟩ := sm_at2 h hj
      exact hD.1 i j q1 q2 h1 h2 (by rw [e1, e2, e])
    · obtain ⟨q1, h1, e1⟩ := sm_at2 h hi
      rw [← e1]
      exact hD.2 i q1 h1
  · intro hD
    refine ⟨fun i j p q hi hj e => ?_, fun k q hk => ?_⟩
    · obtain ⟨h1, e1⟩ := sm_at1 h i p hi
      obtain ⟨h2, e2⟩ := sm_at1 h j q hj
      exact hD.1 i j h1 h2 (by rw [← e1, ← e2, e])
    · obtain ⟨h1, e1⟩ := sm_at1 h k q hk
      rw [e1]
      exact hD.2 k h1
theorem sm_WX {g : GG} {ad : Nat → Nat} {S : XS} : WX g ad S = WX0 g ad S ++ (List.range 14).flatMap (fun j => WI g (ai ad j) (S.2.2.1 j)) := rfl
theorem sm_PX {g : GG} {ad : Nat → Nat} {S : XS} {H : Heap} : PP g (WX g ad S) H ↔ PP g (WX0 g ad S) H ∧ ∀ j, j < 14 → PP g (WI g (ai ad j) (S.2.2.1 j)) H := by
  show va_P _ _ (WX g ad S) H ↔ _
  rw [sm_WX]
  constructor
  · intro h
    have h2 := sm_Papp.mp h
    refine ⟨h2.1, fun j hj => sm_Pm.mpr fun q hq => sm_Pm.mp h2.2 q (List.mem_flatMap.mpr ⟨j, List.mem_range.mpr hj, hq⟩)⟩
  · intro h
    refine sm_Papp.mpr ⟨h.1, sm_Pm.mpr fun q hq => ?_⟩
    obtain ⟨j, hj, hq⟩ := List.mem_flatMap.mp hq
    exact sm_Pm.mp (h.2 j (List.mem_range.mp hj)) q hq
theorem sm_DX {g : GG} {ad : Nat → Nat} {S : XS} {A : Nat → Prop} : va_D A (WX g ad S) ↔ IX ad ∧ ∀ i, i < 85 → A (ad i) := sm_D (n := 85) (f := ad) rfl
theorem sm_DI {g : GG} {a : Nat → Nat} {T : IS} {A : Nat → Prop} : va_D A (WI g a T) ↔ (∀ i j, i < 4 → j < 4 → a i = a j → i = j) ∧ ∀ i, i < 4 → A (a i) := sm_D (n := 4) (f := a) rfl
def ab2 (a b : Nat → Nat) (k : Nat) : Nat := if k < 4 then a k else b (k - 4)
theorem sm_DIB {g : GG} {a b : Nat → Nat} {T : IS} {B : BS} {A : Nat → Prop} : va_D A (WI g a T ++ WB g b B) ↔ (∀ i j, i < 11 → j < 11 → ab2 a b i = ab2 a b j → i = j) ∧ ∀ i, i < 11 → A (ab2 a b i) := sm_D (n := 11) (f := ab2 a b) rfl
theorem sm_DII {g : GG} {a b : Nat → Nat} {T U : IS} {A : Nat → Prop} : va_D A (WI g a T ++ WI g b U) ↔ (∀ i j, i < 8 → j < 8 → ab2 a b i = ab2 a b j → i = j) ∧ ∀ i, i < 8 → A (ab2 a b i) := sm_D (n := 8) (f := ab2 a b) rfl
theorem sm_dX {g : GG} {ad : Nat → Nat} {S S' : XS} {A : Nat → Prop} (h : va_D A (WX g ad S)) : va_D A (WX g ad S') := sm_DX.mpr (sm_DX.mp h)
theorem sm_dI {g : GG} {ad : Nat → Nat} {T : IS} {j : Nat} (hj : j < 14) (h : IX ad) : va_D (AI (ai ad j)) (WI g (ai ad j) T) := by
  refine sm_DI.mpr ⟨fun i k hi hk e => ?_, fun i hi => ⟨i, hi, rfl⟩⟩
  have := h _ _ (by omega) (by omega) (e : ad (29 + 4 * j + i) = ad (29 + 4 * j + k))
  omega
theorem sm_dIB {g : GG} {ad : Nat → Nat} {T : IS} {B : BS} {j : Nat} (hj : j < 14) (h : IX ad) : va_D (AIB (ai ad j) (bd ad)) (WI g (ai ad j) T ++ WB g (bd ad) B) := by
  refine sm_DIB.mpr ⟨fun i k hi hk e => ?_, fun i hi => ?_⟩
  · unfold ab2 at e
    have key : ∀ x y, x < 85 → y < 85 → ad x = ad y → x = y := h
    by_cases h1 : i < 4 <;> by_cases h2 : k < 4 <;> simp only [h1, h2, if_true, if_false] at e
    · have := key _ _ (by omega) (by omega) (e : ad (29 + 4 * j + i) = ad (29 + 4 * j + k)); omega
    · have := key _ _ (by omega) (by omega) (e : ad (29 + 4 * j + i) = ad (1 + (k - 4))); omega
    · have := key _ _ (by omega) (by omega) (e : ad (1 + (i - 4)) = ad (29 + 4 * j + k)); omega
    · have := key _ _ (by omega) (by omega) (e : ad (1 + (i - 4)) = ad (1 + (k - 4))); omega
  · unfold ab2
    by_cases h1 : i < 4
    · rw [if_pos h1]; exact Or.inl ⟨i, h1, rfl⟩
    · rw [if_neg h1]; exact Or.inr ⟨i - 4, by omega, rfl⟩
theorem sm_dII {g : GG} {ad : Nat → Nat} {T U : IS} {j i : Nat} (hj : j < 14) (hi : i < 14) (hn : j ≠ i) (h : IX ad) : va_D (AII (ai ad j) (ai ad i)) (WI g (ai ad j) T ++ WI g (ai ad i) U) := by
  refine sm_DII.mpr ⟨fun x y hx hy e => ?_, fun x hx => ?_⟩
  · unfold ab2 at e
    have key : ∀ x y, x < 85 → y < 85 → ad x = ad y → x = y := h
    by_cases h1 : x < 4 <;> by_cases h2 : y < 4 <;> simp only [h1, h2, if_true, if_false] at e
    · have := key _ _ (by omega) (by omega) (e : ad (29 + 4 * j + x) = ad (29 + 4 * j + y)); omega
    · have := key _ _ (by omega) (by omega) (e : ad (29 + 4 * j + x) = ad (29 + 4 * i + (y - 4))); omega
    · have := key _ _ (by omega) (by omega) (e : ad (29 + 4 * i + (x - 4)) = ad (29 + 4 * j + y)); omega
    · have := key _ _ (by omega) (by omega) (e : ad (29 + 4 * i + (x - 4)) = ad (29 + 4 * i + (y - 4))); omega
  · unfold ab2
    by_cases h1 : x < 4
    · rw [if_pos h1]; exact Or.inl ⟨x, h1, rfl⟩
    · rw [if_neg h1]; exact Or.inr ⟨x - 4, by omega, rfl⟩
theorem sm_pB {g : GG} {ad : Nat → Nat} {S : XS} {H : Heap} (h : PP g (WX g ad S) H) : PP g (WB g (bd ad) S.2.2.2.2.1) H := h.sub (ws' := WB g (bd ad) S.2.2.2.2.1) [1, 2, 3, 4, 5, 6, 7] rfl
theorem sm_pI {g : GG} {ad : Nat → Nat} {S : XS} {H : Heap} {j : Nat} (hj : j < 14) (h : PP g (WX g ad S) H) : PP g (WI g (ai ad j) (S.2.2.1 j)) H := (sm_PX.mp h).2 j hj
theorem sm_pIB {g : GG} {ad : Nat → Nat} {S : XS} {H : Heap} {j : Nat} (hj : j < 14) (h : PP g (WX g ad S) H) : PP g (WI g (ai ad j) (S.2.2.1 j) ++ WB g (bd ad) S.2.2.2.2.1) H := sm_Papp.mpr ⟨sm_pI hj h, sm_pB h⟩
theorem sm_pII {g : GG} {ad : Nat → Nat} {S : XS} {H : Heap} {j i : Nat} (hj : j < 14) (hi : i < 14) (h : PP g (WX g ad S) H) : PP g (WI g (ai ad j) (S.2.2.1 j) ++ WI g (ai ad i) (S.2.2.1 i)) H := sm_Papp.mpr ⟨sm_pI hj h, sm_pI hi h⟩
/-- cells that a call has not been given stay -/
theorem sm_keep {D : va_G} {cl : List vw_C} {ws : va_W} {H H1 : Heap} {A : Nat → Prop} (h : va_P D cl ws H) (hk : ∀ q : Nat, q < H.size → ¬ A q → H1[q]? = H[q]?) (hn : ∀ q ∈ ws, ¬ A q.1) : va_P D cl ws H1 :=
  sm_Pm.mpr fun q hq => ((sm_Pm.mp h) q hq).kept (hk q.1 ((sm_Pm.mp h) q hq).lt (hn q hq))
/-- an island has been turned into T -/
theorem sm_xiG {g : GG} {ad : Nat → Nat} {S : XS} {H H1 : Heap} {j : Nat} {T : IS} {A : Nat → Prop} (hP : PP g (WX g ad S) H) (hk : ∀ q : Nat, q < H.size → ¬ A q → H1[q]? = H[q]?) (h1 : PP g (WI g (ai ad j) T) H1)
    (h0 : PP g (WX0 g ad S) H1) (hn : ∀ i, i < 14 → i ≠ j → PP g (WI g (ai ad i) (S.2.2.1 i)) H1) : PP g (WX g ad (xi S j T)) H1 := by
  refine sm_PX.mpr ⟨h0, fun i hi => ?_⟩
  show PP g (WI g (ai ad i) (va_up S.2.2.1 j T i)) H1
  by_cases e : i = j
  · subst e
    rw [va_up_self]
    exact h1
  · rw [va_up_ne _ _ e]
    exact hn i hi e
theorem sm_in0 {g : GG} {ad : Nat → Nat} {S : XS} {q : Nat × va_E} (hq : q ∈ WX0 g ad S) : ∃ k, k < 29 ∧ q.1 = ad k := sm_fst (n := 29) (f := ad) rfl hq
theorem sm_inI {g : GG} {a : Nat → Nat} {T : IS} {q : Nat × va_E} (hq : q ∈ WI g a T) : ∃ k, k < 4 ∧ q.1 = a k := sm_fst (n := 4) (f := a) rfl hq
theorem sm_xiI {g : GG} {ad : Nat → Nat} {S : XS} {H H1 : Heap} {j : Nat} {T : IS} (hj : j < 14) (hI : IX ad) (hP : PP g (WX g ad S) H) (hk : ∀ q : Nat, q < H.size → ¬ AI (ai ad j) q → H1[q]? = H[q]?) (h1 : PP g (WI g (ai ad j) T) H1) : PP g (WX g ad (xi S j T)) H1 := by
  obtain ⟨p0, pI⟩ := sm_PX.mp hP
  refine sm_xiG hP hk h1 (sm_keep p0 hk fun q hq => ?_) (fun i hi e => sm_keep (pI i hi) hk fun q hq => ?_)
  · obtain ⟨k, hk, e⟩ := sm_in0 hq
    rintro ⟨c, hc, e2⟩
    have := hI k (29 + 4 * j + c) (by omega) (by omega) (e.symm.trans e2)
    omega
  · obtain ⟨k, hk, e1⟩ := sm_inI hq
    rintro ⟨c, hc, e2⟩
    have := hI (29 + 4 * i + k) (29 + 4 * j + c) (by omega) (by omega) (e1.symm.trans e2)
    omega
theorem sm_xiB {g : GG} {ad : Nat → Nat} {S : XS} {H H1 : Heap} {j : Nat} {T : IS} (hj : j < 14) (hI : IX ad) (hP : PP g (WX g ad S) H) (hk : ∀ q : Nat, q < H.size → ¬ AIB (ai ad j) (bd ad) q → H1[q]? = H[q]?) (h1 : PP g (WI g (ai ad j) T ++ WB g (bd ad) S.2.2.2.2.1) H1) : PP g (WX g ad (xi S j T)) H1 := by
  obtain ⟨p0, pI⟩ := sm_PX.mp hP
  obtain ⟨h1, hB⟩ := sm_Papp.mp h1
  refine sm_xiG hP hk h1 ?_ (fun i hi e => sm_keep (pI i hi) hk fun q hq => ?_)
  · -- the book's own cells come back from the call, the others stay
    have hrest : ∀ q ∈ WX0 g ad S, va_at (g.1, g.2.1) vwCl q H1 := by
      intro q hq
      obtain ⟨k, hk'⟩ := List.mem_iff_getElem?.mp hq
      · obtain ⟨hlt, e1⟩ := sm_at1 (n := 29) (f := ad) (ws := WX0 g ad S) rfl k q hk'
        by_cases hb : 1 ≤ k ∧ k < 8
        · have hq2 : (WB g (bd ad) S.2.2.2.2.1)[k - 1]? = some q := by
            rw [← hk']
            obtain ⟨h1, h2⟩ := hb
            have : k = 1 ∨ k = 2 ∨ k = 3 ∨ k = 4 ∨ k = 5 ∨ k = 6 ∨ k = 7 := by omega
            rcases this with e | e | e | e | e | e | e <;> subst e <;> rfl
          exact hB _ q hq2
        · have hat := p0 k q hk'
          refine hat.kept (hk q.1 hat.lt ?_)
          rw [e1]
          rintro (⟨c, hc, e2⟩ | ⟨c, hc, e2⟩)
          · have := hI k (29 + 4 * j + c) (by omega) (by omega) e2
            omega
          · have := hI k (1 + c) (by omega) (by omega) e2
            omega
    exact sm_Pm.mpr hrest
  · obtain ⟨k, hk, e1⟩ := sm_inI hq
    rintro (⟨c, hc, e2⟩ | ⟨c, hc, e2⟩)
    · have := hI (29 + 4 * i + k) (29 + 4 * j + c) (by omega) (by omega) (e1.symm.trans e2)
      omega
    · have := hI (29 + 4 * i + k) (1 + c) (by omega) (by omega) (e1.symm.trans e2)
      omega
theorem sm_xiII {g : GG} {ad : Nat → Nat} {S : XS} {H H1 : Heap} {j i0 : Nat} {T : IS} (hj : j < 14) (hi0 : i0 < 14) (hne : j ≠ i0) (hI : IX ad) (hP : PP g (WX g ad S) H) (hk : ∀ q : Nat, q < H.size → ¬ AII (ai ad j) (ai ad i0) q → H1[q]? = H[q]?) (h1 : PP g (WI g (ai ad j) T ++ WI g (ai ad i0) (S.2.2.1 i0)) H1) : PP g (WX g ad (xi S j T)) H1 := by
  obtain ⟨p0, pI⟩ := sm_PX.mp hP
  obtain ⟨h1, hB⟩ := sm_Papp.mp h1
  refine sm_xiG hP hk h1 (sm_keep p0 hk fun q hq => ?_) (fun i hi e => ?_)
  · obtain ⟨k, hk, e⟩ := sm_in0 hq
    rintro (⟨c, hc, e2⟩ | ⟨c, hc, e2⟩)
    · have := hI k (29 + 4 * j + c) (by omega) (by omega) (e.symm.trans e2)
      omega
    · have := hI k (29 + 4 * i0 + c) (by omega) (by omega) (e.symm.trans e2)
      omega
  · by_cases e0 : i = i0
    · subst e0; exact hB
    refine sm_keep (pI i hi) hk fun q hq => ?_
    obtain ⟨k, hk, e1⟩ := sm_inI hq
    rintro (⟨c, hc, e2⟩ | ⟨c, hc, e2⟩)
    · have := hI (29 + 4 * i + k) (29 + 4 * j + c) (by omega) (by omega) (e1.symm.trans e2)
      omega
    · have := hI (29 + 4 * i + k) (29 + 4 * i0 + c) (by omega) (by omega) (e1.symm.trans e2)
      omega
theorem pif0 {g : GG} {a : Nat → Nat} {T : IS} {x : Int32} {H : Heap} (h : PP g ((WI g a T).set 0 (a 0, .inr (2, ([.int (T.1 0), .int (T.1 1), .int (T.1 2), .ref (a 1), .ref (a 2), .ref (a 3), .int (T.1 6)] : List Value).set 0 (.int x)))) H) : PP g (WI g a (iv T 0 x)) H := h
theorem dif0 {g : GG} {a : Nat → Nat} {T : IS} {x : Int32} {A : Nat → Prop} (h : va_D A ((WI g a T).set 0 (a 0, .inr (2, ([.int (T.1 0), .int (T.1 1), .int (T.1 2), .ref (a 1), .ref (a 2), .ref (a 3), .int (T.1 6)] : List Value).set 0 (.int x))))) : va_D A (WI g a (iv T 0 x)) := h
theorem pif1 {g : GG} {a : Nat → Nat} {T : IS} {x : Int32} {H : Heap} (h : PP g ((WI g a T).set 0 (a 0, .inr (2, ([.int (T.1 0), .int (T.1 1), .int (T.1 2), .ref (a 1), .ref (a 2), .ref (a 3), .int (T.1 6)] : List Value).set 1 (.int x)))) H) : PP g (WI g a (iv T 1 x)) H := h
theorem dif1 {g : GG} {a : Nat → Nat} {T : IS} {x : Int32} {A : Nat → Prop} (h : va_D A ((WI g a T).set 0 (a 0, .inr (2, ([.int (T.1 0), .int (T.1 1), .int (T.1 2), .ref (a 1), .ref (a 2), .ref (a 3), .int (T.1 6)] : List Value).set 1 (.int x))))) : va_D A (WI g a (iv T 1 x)) := h
theorem pif2 {g : GG} {a : Nat → Nat} {T : IS} {x : Int32} {H : Heap} (h : PP g ((WI g a T).set 0 (a 0, .inr (2, ([.int (T.1 0), .int (T.1 1), .int (T.1 2), .ref (a 1), .ref (a 2), .ref (a 3), .int (T.1 6)] : List Value).set 2 (.int x)))) H) : PP g (WI g a (iv T 2 x)) H := h
theorem dif2 {g : GG} {a : Nat → Nat} {T : IS} {x : Int32} {A : Nat → Prop} (h : va_D A ((WI g a T).set 0 (a 0, .inr (2, ([.int (T.1 0), .int (T.1 1), .int (T.1 2), .ref (a 1), .ref (a 2), .ref (a 3), .int (T.1 6)] : List Value).set 2 (.int x))))) : va_D A (WI g a (iv T 2 x)) := h
theorem pif6 {g : GG} {a : Nat → Nat} {T : IS} {x : Int32} {H : Heap} (h : PP g ((WI g a T).set 0 (a 0, .inr (2, ([.int (T.1 0), .int (T.1 1), .int (T.1 2), .ref (a 1), .ref (a 2), .ref (a 3), .int (T.1 6)] : List Value).set 6 (.int x)))) H) : PP g (WI g a (iv T 6 x)) H := h
theorem dif6 {g : GG} {a : Nat → Nat} {T : IS} {x : Int32} {A : Nat → Prop} (h : va_D A ((WI g a T).set 0 (a 0, .inr (2, ([.int (T.1 0), .int (T.1 1), .int (T.1 2), .ref (a 1), .ref (a 2), .ref (a 3), .int (T.1 6)] : List Value).set 6 (.int x))))) : va_D A (WI g a (iv T 6 x)) := h
theorem pir3 {g : GG} {a : Nat → Nat} {T : IS} {i : Nat} {x : Int32} {H : Heap} (h : PP g ((WI g a T).set 1 (a 1, .inl (g.2.2 0, 6, .inl (upd (T.2 3) i x)))) H) : PP g (WI g a (ia T 3 i x)) H := h
theorem dir3 {g : GG} {a : Nat → Nat} {T : IS} {i : Nat} {x : Int32} {A : Nat → Prop} (h : va_D A ((WI g a T).set 1 (a 1, .inl (g.2.2 0, 6, .inl (upd (T.2 3) i x))))) : va_D A (WI g a (ia T 3 i x)) := h
theorem piw3 {g : GG} {a : Nat → Nat} {T : IS} {f : Nat → Int32} {H : Heap} (h : PP g ((WI g a T).set 1 (a 1, .inl (g.2.2 0, 6, .inl f))) H) : PP g (WI g a (ir T 3 f)) H := h
theorem diw3 {g : GG} {a : Nat → Nat} {T : IS} {f : Nat → Int32} {A : Nat → Prop} (h : va_D A ((WI g a T).set 1 (a 1, .inl (g.2.2 0, 6, .inl f)))) : va_D A (WI g a (ir T 3 f)) := h
theorem pir4 {g : GG} {a : Nat → Nat} {T : IS} {i : Nat} {x : Int32} {H : Heap} (h : PP g ((WI g a T).set 2 (a 2, .inl (g.2.2 0, 6, .inl (upd (T.2 4) i x)))) H) : PP g (WI g a (ia T 4 i x)) H := h
theorem dir4 {g : GG} {a : Nat → Nat} {T : IS} {i : Nat} {x : Int32} {A : Nat → Prop} (h : va_D A ((WI g a T).set 2 (a 2, .inl (g.2.2 0, 6, .inl (upd (T.2 4) i x))))) : va_D A (WI g a (ia T 4 i x)) := h
theorem piw4 {g : GG} {a : Nat → Nat} {T : IS} {f : Nat → Int32} {H : Heap} (h : PP g ((WI g a T).set 2 (a 2, .inl (g.2.2 0, 6, .inl f))) H) : PP g (WI g a (ir T 4 f)) H := h
theorem diw4 {g : GG} {a : Nat → Nat} {T : IS} {f : Nat → Int32} {A : Nat → Prop} (h : va_D A ((WI g a T).set 2 (a 2, .inl (g.2.2 0, 6, .inl f)))) : va_D A (WI g a (ir T 4 f)) := h
theorem pir5 {g : GG} {a : Nat → Nat} {T : IS} {i : Nat} {x : Int32} {H : Heap} (h : PP g ((WI g a T).set 3 (a 3, .inl (g.2.2 0, 5, .inl (upd (T.2 5) i x)))) H) : PP g (WI g a (ia T 5 i x)) H := h
theorem dir5 {g : GG} {a : Nat → Nat} {T : IS} {i : Nat} {x : Int32} {A : Nat → Prop} (h : va_D A ((WI g a T).set 3 (a 3, .inl (g.2.2 0, 5, .inl (upd (T.2 5) i x))))) : va_D A (WI g a (ia T 5 i x)) := h
theorem piw5 {g : GG} {a : Nat → Nat} {T : IS} {f : Nat → Int32} {H : Heap} (h : PP g ((WI g a T).set 3 (a 3, .inl (g.2.2 0, 5, .inl f))) H) : PP g (WI g a (ir T 5 f)) H := h
theorem diw5 {g : GG} {a : Nat → Nat} {T : IS} {f : Nat → Int32} {A : Nat → Prop} (h : va_D A ((WI g a T).set 3 (a 3, .inl (g.2.2 0, 5, .inl f)))) : va_D A (WI g a (ir T 5 f)) := h
theorem pjf0 {g : GG} {a : Nat → Nat} {T : IS} {x : Int32} {b : Nat → Nat} {B : BS} {H : Heap} (h : PP g ((WI g a T ++ WB g b B).set 0 (a 0, .inr (2, ([.int (T.1 0), .int (T.1 1), .int (T.1 2), .ref (a 1), .ref (a 2), .ref (a 3), .int (T.1 6)] : List Value).set 0 (.int x)))) H) : PP g (WI g a (iv T 0 x) ++ WB g b B) H := h
theorem djf0 {g : GG} {a : Nat → Nat} {T : IS} {x : Int32} {b : Nat → Nat} {B : BS} {A : Nat → Prop} (h : va_D A ((WI g a T ++ WB g b B).set 0 (a 0, .inr (2, ([.int (T.1 0), .int (T.1 1), .int (T.1 2), .ref (a 1), .ref (a 2), .ref (a 3), .int (T.1 6)] : List Value).set 0 (.int x))))) : va_D A (WI g a (iv T 0 x) ++ WB g b B) := h
theorem pjf1 {g : GG} {a : Nat → Nat} {T : IS} {x : Int32} {b : Nat → Nat} {B : BS} {H : Heap} (h : PP g ((WI g a T ++ WB g b B).set 0 (a 0, .inr (2, ([.int (T.1 0), .int (T.1 1), .int (T.1 2), .ref (a 1), .ref (a 2), .ref (a 3), .int (T.1 6)] : List Value).set 1 (.int x)))) H) : PP g (WI g a (iv T 1 x) ++ WB g b B) H := h
theorem djf1 {g : GG} {a : Nat → Nat} {T : IS} {x : Int32} {b : Nat → Nat} {B : BS} {A : Nat → Prop} (h : va_D A ((WI g a T ++ WB g b B).set 0 (a 0, .inr (2, ([.int (T.1 0), .int (T.1 1), .int (T.1 2), .ref (a 1), .ref (a 2), .ref (a 3), .int (T.1 6)] : List Value).set 1 (.int x))))) : va_D A (WI g a (iv T 1 x) ++ WB g b B) := h
theorem pjf2 {g : GG} {a : Nat → Nat} {T : IS} {x : Int32} {b : Nat → Nat} {B : BS} {H : Heap} (h : PP g ((WI g a T ++ WB g b B).set 0 (a 0, .inr (2, ([.int (T.1 0), .int (T.1 1), .int (T.1 2), .ref (a 1), .ref (a 2), .ref (a 3), .int (T.1 6)] : List Value).set 2 (.int x)))) H) : PP g (WI g a (iv T 2 x) ++ WB g b B) H := h
theorem djf2 {g : GG} {a : Nat → Nat} {T : IS} {x : Int32} {b : Nat → Nat} {B : BS} {A : Nat → Prop} (h : va_D A ((WI g a T ++ WB g b B).set 0 (a 0, .inr (2, ([.int (T.1 0), .int (T.1 1), .int (T.1 2), .ref (a 1), .ref (a 2), .ref (a 3), .int (T.1 6)] : List Value).set 2 (.int x))))) : va_D A (WI g a (iv T 2 x) ++ WB g b B) := h
theorem pjf6 {g : GG} {a : Nat → Nat} {T : IS} {x : Int32} {b : Nat → Nat} {B : BS} {H : Heap} (h : PP g ((WI g a T ++ WB g b B).set 0 (a 0, .inr (2, ([.int (T.1 0), .int (T.1 1), .int (T.1 2), .ref (a 1), .ref (a 2), .ref (a 3), .int (T.1 6)] : List Value).set 6 (.int x)))) H) : PP g (WI g a (iv T 6 x) ++ WB g b B) H := h
theorem djf6 {g : GG} {a : Nat → Nat} {T : IS} {x : Int32} {b : Nat → Nat} {B : BS} {A : Nat → Prop} (h : va_D A ((WI g a T ++ WB g b B).set 0 (a 0, .inr (2, ([.int (T.1 0), .int (T.1 1), .int (T.1 2), .ref (a 1), .ref (a 2), .ref (a 3), .int (T.1 6)] : List Value).set 6 (.int x))))) : va_D A (WI g a (iv T 6 x) ++ WB g b B) := h
theorem pjr3 {g : GG} {a : Nat → Nat} {T : IS} {i : Nat} {x : Int32} {b : Nat → Nat} {B : BS} {H : Heap} (h : PP g ((WI g a T ++ WB g b B).set 1 (a 1, .inl (g.2.2 0, 6, .inl (upd (T.2 3) i x)))) H) : PP g (WI g a (ia T 3 i x) ++ WB g b B) H := h
theorem djr3 {g : GG} {a : Nat → Nat} {T : IS} {i : Nat} {x : Int32} {b : Nat → Nat} {B : BS} {A : Nat → Prop} (h : va_D A ((WI g a T ++ WB g b B).set 1 (a 1, .inl (g.2.2 0, 6, .inl (upd (T.2 3) i x))))) : va_D A (WI g a (ia T 3 i x) ++ WB g b B) := h
theorem pjw3 {g : GG} {a : Nat → Nat} {T : IS} {f : Nat → Int32} {b : Nat → Nat} {B : BS} {H : Heap} (h : PP g ((WI g a T ++ WB g b B).set 1 (a 1, .inl (g.2.2 0, 6, .inl f))) H) : PP g (WI g a (ir T 3 f) ++ WB g b B) H := h
theorem djw3 {g : GG} {a : Nat → Nat} {T : IS} {f : Nat → Int32} {b : Nat → Nat} {B : BS} {A : Nat → Prop} (h : va_D A ((WI g a T ++ WB g b B).set 1 (a 1, .inl (g.2.2 0, 6, .inl f)))) : va_D A (WI g a (ir T 3 f) ++ WB g b B) := h
theorem pjr4 {g : GG} {a : Nat → Nat} {T : IS} {i : Nat} {x : Int32} {b : Nat → Nat} {B : BS} {H : Heap} (h : PP g ((WI g a T ++ WB g b B).set 2 (a 2, .inl (g.2.2 0, 6, .inl (upd (T.2 4) i x)))) H) : PP g (WI g a (ia T 4 i x) ++ WB g b B) H := h
theorem djr4 {g : GG} {a : Nat → Nat} {T : IS} {i : Nat} {x : Int32} {b : Nat → Nat} {B : BS} {A : Nat → Prop} (h : va_D A ((WI g a T ++ WB g b B).set 2 (a 2, .inl (g.2.2 0, 6, .inl (upd (T.2 4) i x))))) : va_D A (WI g a (ia T 4 i x) ++ WB g b B) := h
theorem pjw4 {g : GG} {a : Nat → Nat} {T : IS} {f : Nat → Int32} {b : Nat → Nat} {B : BS} {H : Heap} (h : PP g ((WI g a T ++ WB g b B).set 2 (a 2, .inl (g.2.2 0, 6, .inl f))) H) : PP g (WI g a (ir T 4 f) ++ WB g b B) H := h
theorem djw4 {g : GG} {a : Nat → Nat} {T : IS} {f : Nat → Int32} {b : Nat → Nat} {B : BS} {A : Nat → Prop} (h : va_D A ((WI g a T ++ WB g b B).set 2 (a 2, .inl (g.2.2 0, 6, .inl f)))) : va_D A (WI g a (ir T 4 f) ++ WB g b B) := h
theorem pjr5 {g : GG} {a : Nat → Nat} {T : IS} {i : Nat} {x : Int32} {b : Nat → Nat} {B : BS} {H : Heap} (h : PP g ((WI g a T ++ WB g b B).set 3 (a 3, .inl (g.2.2 0, 5, .inl (upd (T.2 5) i x)))) H) : PP g (WI g a (ia T 5 i x) ++ WB g b B) H := h
theorem djr5 {g : GG} {a : Nat → Nat} {T : IS} {i : Nat} {x : Int32} {b : Nat → Nat} {B : BS} {A : Nat → Prop} (h : va_D A ((WI g a T ++ WB g b B).set 3 (a 3, .inl (g.2.2 0, 5, .inl (upd (T.2 5) i x))))) : va_D A (WI g a (ia T 5 i x) ++ WB g b B) := h
theorem pjw5 {g : GG} {a : Nat → Nat} {T : IS} {f : Nat → Int32} {b : Nat → Nat} {B : BS} {H : Heap} (h : PP g ((WI g a T ++ WB g b B).set 3 (a 3, .inl (g.2.2 0, 5, .inl f))) H) : PP g (WI g a (ir T 5 f) ++ WB g b B) H := h
theorem djw5 {g : GG} {a : Nat → Nat} {T : IS} {f : Nat → Int32} {b : Nat → Nat} {B : BS} {A : Nat → Prop} (h : va_D A ((WI g a T ++ WB g b B).set 3 (a 3, .inl (g.2.2 0, 5, .inl f)))) : va_D A (WI g a (ir T 5 f) ++ WB g b B) := h
theorem pkf0 {g : GG} {a : Nat → Nat} {T : IS} {x : Int32} {b : Nat → Nat} {U : IS} {H : Heap} (h : PP g ((WI g a T ++ WI g b U).set 0 (a 0, .inr (2, ([.int (T.1 0), .int (T.1 1), .int (T.1 2), .ref (a 1), .ref (a 2), .ref (a 3), .int (T.1 6)] : List Value).set 0 (.int x)))) H) : PP g (WI g a (iv T 0 x) ++ WI g b U) H := h
theorem dkf0 {g : GG} {a : Nat → Nat} {T : IS} {x : Int32} {b : Nat → Nat} {U : IS} {A : Nat → Prop} (h : va_D A ((WI g a T ++ WI g b U).set 0 (a 0, .inr (2, ([.int (T.1 0), .int (T.1 1), .int (T.1 2), .ref (a 1), .ref (a 2), .ref (a 3), .int (T.1 6)] : List Value).set 0 (.int x))))) : va_D A (WI g a (iv T 0 x) ++ WI g b U) := h
theorem pkf1 {g : GG} {a : Nat → Nat} {T : IS} {x : Int32} {b : Nat → Nat} {U : IS} {H : Heap} (h : PP g ((WI g a T ++ WI g b U).set 0 (a 0, .inr (2, ([.int (T.1 0), .int (T.1 1), .int (T.1 2), .ref (a 1), .ref (a 2), .ref (a 3), .int (T.1 6)] : List Value).set 1 (.int x)))) H) : PP g (WI g a (iv T 1 x) ++ WI g b U) H := h
theorem dkf1 {g : GG} {a : Nat → Nat} {T : IS} {x : Int32} {b : Nat → Nat} {U : IS} {A : Nat → Prop} (h : va_D A ((WI g a T ++ WI g b U).set 0 (a 0, .inr (2, ([.int (T.1 0), .int (T.1 1), .int (T.1 2), .ref (a 1), .ref (a 2), .ref (a 3), .int (T.1 6)] : List Value).set 1 (.int x))))) : va_D A (WI g a (iv T 1 x) ++ WI g b U) := h
theorem pkf2 {g : GG} {a : Nat → Nat} {T : IS} {x : Int32} {b : Nat → Nat} {U : IS} {H : Heap} (h : PP g ((WI g a T ++ WI g b U).set 0 (a 0, .inr (2, ([.int (T.1 0), .int (T.1 1), .int (T.1 2), .ref (a 1), .ref (a 2), .ref (a 3), .int (T.1 6)] : List Value).set 2 (.int x)))) H) : PP g (WI g a (iv T 2 x) ++ WI g b U) H := h
theorem dkf2 {g : GG} {a : Nat → Nat} {T : IS} {x : Int32} {b : Nat → Nat} {U : IS} {A : Nat → Prop} (h : va_D A ((WI g a T ++ WI g b U).set 0 (a 0, .inr (2, ([.int (T.1 0), .int (T.1 1), .int (T.1 2), .ref (a 1), .ref (a 2), .ref (a 3), .int (T.1 6)] : List Value).set 2 (.int x))))) : va_D A (WI g a (iv T 2 x) ++ WI g b U) := h
theorem pkf6 {g : GG} {a : Nat → Nat} {T : IS} {x : Int32} {b : Nat → Nat} {U : IS} {H : Heap} (h : PP g ((WI g a T ++ WI g b U).set 0 (a 0, .inr (2, ([.int (T.1 0), .int (T.1 1), .int (T.1 2), .ref (a 1), .ref (a 2), .ref (a 3), .int (T.1 6)] : List Value).set 6 (.int x)))) H) : PP g (WI g a (iv T 6 x) ++ WI g b U) H := h
theorem dkf6 {g : GG} {a : Nat → Nat} {T : IS} {x : Int32} {b : Nat → Nat} {U : IS} {A : Nat → Prop} (h : va_D A ((WI g a T ++ WI g b U).set 0 (a 0, .inr (2, ([.int (T.1 0), .int (T.1 1), .int (T.1 2), .ref (a 1), .ref (a 2), .ref (a 3), .int (T.1 6)] : List Value).set 6 (.int x))))) : va_D A (WI g a (iv T 6 x) ++ WI g b U) := h
theorem pkr3 {g : GG} {a : Nat → Nat} {T : IS} {i : Nat} {x : Int32} {b : Nat → Nat} {U : IS} {H : Heap} (h : PP g ((WI g a T ++ WI g b U).set 1 (a 1, .inl (g.2.2 0, 6, .inl (upd (T.2 3) i x)))) H) : PP g (WI g a (ia T 3 i x) ++ WI g b U) H := h
theorem dkr3 {g : GG} {a : Nat → Nat} {T : IS} {i : Nat} {x : Int32} {b : Nat → Nat} {U : IS} {A : Nat → Prop} (h : va_D A ((WI g a T ++ WI g b U).set 1 (a 1, .inl (g.2.2 0, 6, .inl (upd (T.2 3) i x))))) : va_D A (WI g a (ia T 3 i x) ++ WI g b U) := h
theorem pkw3 {g : GG} {a : Nat → Nat} {T : IS} {f : Nat → Int32} {b : Nat → Nat} {U : IS} {H : Heap} (h : PP g ((WI g a T ++ WI g b U).set 1 (a 1, .inl (g.2.2 0, 6, .inl f))) H) : PP g (WI g a (ir T 3 f) ++ WI g b U) H := h
theorem dkw3 {g : GG} {a : Nat → Nat} {T : IS} {f : Nat → Int32} {b : Nat → Nat} {U : IS} {A : Nat → Prop} (h : va_D A ((WI g a T ++ WI g b U).set 1 (a 1, .inl (g.2.2 0, 6, .inl f)))) : va_D A (WI g a (ir T 3 f) ++ WI g b U) := h
theorem pkr4 {g : GG} {a : Nat → Nat} {T : IS} {i : Nat} {x : Int32} {b : Nat → Nat} {U : IS} {H : Heap} (h : PP g ((WI g a T ++ WI g b U).set 2 (a 2, .inl (g.2.2 0, 6, .inl (upd (T.2 4) i x)))) H) : PP g (WI g a (ia T 4 i x) ++ WI g b U) H := h
theorem dkr4 {g : GG} {a : Nat → Nat} {T : IS} {i : Nat} {x : Int32} {b : Nat → Nat} {U : IS} {A : Nat → Prop} (h : va_D A ((WI g a T ++ WI g b U).set 2 (a 2, .inl (g.2.2 0, 6, .inl (upd (T.2 4) i x))))) : va_D A (WI g a (ia T 4 i x) ++ WI g b U) := h
theorem pkw4 {g : GG} {a : Nat → Nat} {T : IS} {f : Nat → Int32} {b : Nat → Nat} {U : IS} {H : Heap} (h : PP g ((WI g a T ++ WI g b U).set 2 (a 2, .inl (g.2.2 0, 6, .inl f))) H) : PP g (WI g a (ir T 4 f) ++ WI g b U) H := h
theorem dkw4 {g : GG} {a : Nat → Nat} {T : IS} {f : Nat → Int32} {b : Nat → Nat} {U : IS} {A : Nat → Prop} (h : va_D A ((WI g a T ++ WI g b U).set 2 (a 2, .inl (g.2.2 0, 6, .inl f)))) : va_D A (WI g a (ir T 4 f) ++ WI g b U) := h
theorem pkr5 {g : GG} {a : Nat → Nat} {T : IS} {i : Nat} {x : Int32} {b : Nat → Nat} {U : IS} {H : Heap} (h : PP g ((WI g a T ++ WI g b U).set 3 (a 3, .inl (g.2.2 0, 5, .inl (upd (T.2 5) i x)))) H) : PP g (WI g a (ia T 5 i x) ++ WI g b U) H := h
theorem dkr5 {g : GG} {a : Nat → Nat} {T : IS} {i : Nat} {x : Int32} {b : Nat → Nat} {U : IS} {A : Nat → Prop} (h : va_D A ((WI g a T ++ WI g b U).set 3 (a 3, .inl (g.2.2 0, 5, .inl (upd (T.2 5) i x))))) : va_D A (WI g a (ia T 5 i x) ++ WI g b U) := h
theorem pkw5 {g : GG} {a : Nat → Nat} {T : IS} {f : Nat → Int32} {b : Nat → Nat} {U : IS} {H : Heap} (h : PP g ((WI g a T ++ WI g b U).set 3 (a 3, .inl (g.2.2 0, 5, .inl f))) H) : PP g (WI g a (ir T 5 f) ++ WI g b U) H := h
theorem dkw5 {g : GG} {a : Nat → Nat} {T : IS} {f : Nat → Int32} {b : Nat → Nat} {U : IS} {A : Nat → Prop} (h : va_D A ((WI g a T ++ WI g b U).set 3 (a 3, .inl (g.2.2 0, 5, .inl f)))) : va_D A (WI g a (ir T 5 f) ++ WI g b U) := h
theorem pxf4 {g : GG} {ad : Nat → Nat} {S : XS} {x : Int32} {H : Heap} (h : PP g ((WX g ad S).set 0 (ad 0, .inr (0, ([.ref (ad 1), .ref (ad 29), .ref (ad 33), .ref (ad 20), .int (S.1 4), .ref (ad 21), .ref (ad 8), .ref (ad 9), .int (S.1 8), .ref (ad 10), .ref (ad 11), .ref (ad 16), .int (S.1 12), .int (S.1 13), .ref (ad 17), .int (S.1 15), .ref (ad 18), .ref (ad 19), .long S.2.2.2.1, .ref (ad 22)] : List Value).set 4 (.int x)))) H) : PP g (WX g ad (xv S 4 x)) H := h
theorem dxf4 {g : GG} {ad : Nat → Nat} {S : XS} {x : Int32} {A : Nat → Prop} (h : va_D A ((WX g ad S).set 0 (ad 0, .inr (0, ([.ref (ad 1), .ref (ad 29), .ref (ad 33), .ref (ad 20), .int (S.1 4), .ref (ad 21), .ref (ad 8), .ref (ad 9), .int (S.1 8), .ref (ad 10), .ref (ad 11), .ref (ad 16), .int (S.1 12), .int (S.1 13), .ref (ad 17), .int (S.1 15), .ref (ad 18), .ref (ad 19), .long S.2.2.2.1, .ref (ad 22)] : List Value).set 4 (.int x))))) : va_D A (WX g ad (xv S 4 x)) := h
theorem pxf8 {g : GG} {ad : Nat → Nat} {S : XS} {x : Int32} {H : Heap} (h : PP g ((WX g ad S).set 0 (ad 0, .inr (0, ([.ref (ad 1), .ref (ad 29), .ref (ad 33), .ref (ad 20), .int (S.1 4), .ref (ad 21), .ref (ad 8), .ref (ad 9), .int (S.1 8), .ref (ad 10), .ref (ad 11), .ref (ad 16), .int (S.1 12), .int (S.1 13), .ref (ad 17), .int (S.1 15), .ref (ad 18), .ref (ad 19), .long S.2.2.2.1, .ref (ad 22)] : List Value).set 8 (.int x)))) H) : PP g (WX g ad (xv S 8 x)) H := h
theorem dxf8 {g : GG} {ad : Nat → Nat} {S : XS} {x : Int32} {A : Nat → Prop} (h : va_D A ((WX g ad S).set 0 (ad 0, .inr (0, ([.ref (ad 1), .ref (ad 29), .ref (ad 33), .ref (ad 20), .int (S.1 4), .ref (ad 21), .ref (ad 8), .ref (ad 9), .int (S.1 8), .ref (ad 10), .ref (ad 11), .ref (ad 16), .int (S.1 12), .int (S.1 13), .ref (ad 17), .int (S.1 15), .ref (ad 18), .ref (ad 19), .long S.2.2.2.1, .ref (ad 22)] : List Value).set 8 (.int x))))) : va_D A (WX g ad (xv S 8 x)) := h
theorem pxf12 {g : GG} {ad : Nat → Nat} {S : XS} {x : Int32} {H : Heap} (h : PP g ((WX g ad S).set 0 (ad 0, .inr (0, ([.ref (ad 1), .ref (ad 29), .ref (ad 33), .ref (ad 20), .int (S.1 4), .ref (ad 21), .ref (ad 8), .ref (ad 9), .int (S.1 8), .ref (ad 10), .ref (ad 11), .ref (ad 16), .int (S.1 12), .int (S.1 13), .ref (ad 17), .int (S.1 15), .ref (ad 18), .ref (ad 19), .long S.2.2.2.1, .ref (ad 22)] : List Value).set 12 (.int x)))) H) : PP g (WX g ad (xv S 12 x)) H := h
theorem dxf12 {g : GG} {ad : Nat → Nat} {S : XS} {x : Int32} {A : Nat → Prop} (h : va_D A ((WX g ad S).set 0 (ad 0, .inr (0, ([.ref (ad 1), .ref (ad 29), .ref (ad 33), .ref (ad 20), .int (S.1 4), .ref (ad 21), .ref (ad 8), .ref (ad 9), .int (S.1 8), .ref (ad 10), .ref (ad 11), .ref (ad 16), .int (S.1 12), .int (S.1 13), .ref (ad 17), .int (S.1 15), .ref (ad 18), .ref (ad 19), .long S.2.2.2.1, .ref (ad 22)] : List Value).set 12 (.int x))))) : va_D A (WX g ad (xv S 12 x)) := h
theorem pxf13 {g : GG} {ad : Nat → Nat} {S : XS} {x : Int32} {H : Heap} (h : PP g ((WX g ad S).set 0 (ad 0, .inr (0, ([.ref (ad 1), .ref (ad 29), .ref (ad 33), .ref (ad 20), .int (S.1 4), .ref (ad 21), .ref (ad 8), .ref (ad 9), .int (S.1 8), .ref (ad 10), .ref (ad 11), .ref (ad 16), .int (S.1 12), .int (S.1 13), .ref (ad 17), .int (S.1 15), .ref (ad 18), .ref (ad 19), .long S.2.2.2.1, .ref (ad 22)] : List Value).set 13 (.int x)))) H) : PP g (WX g ad (xv S 13 x)) H := h
theorem dxf13 {g : GG} {ad : Nat → Nat} {S : XS} {x : Int32} {A : Nat → Prop} (h : va_D A ((WX g ad S).set 0 (ad 0, .inr (0, ([.ref (ad 1), .ref (ad 29), .ref (ad 33), .ref (ad 20), .int (S.1 4), .ref (ad 21), .ref (ad 8), .ref (ad 9), .int (S.1 8), .ref (ad 10), .ref (ad 11), .ref (ad 16), .int (S.1 12), .int (S.1 13), .ref (ad 17), .int (S.1 15), .ref (ad 18), .ref (ad 19), .long S.2.2.2.1, .ref (ad 22)] : List Value).set 13 (.int x))))) : va_D A (WX g ad (xv S 13 x)) := h
theorem pxf15 {g : GG} {ad : Nat → Nat} {S : XS} {x : Int32} {H : Heap} (h : PP g ((WX g ad S).set 0 (ad 0, .inr (0, ([.ref (ad 1), .ref (ad 29), .ref (ad 33), .ref (ad 20), .int (S.1 4), .ref (ad 21), .ref (ad 8), .ref (ad 9), .int (S.1 8), .ref (ad 10), .ref (ad 11), .ref (ad 16), .int (S.1 12), .int (S.1 13), .ref (ad 17), .int (S.1 15), .ref (ad 18), .ref (ad 19), .long S.2.2.2.1, .ref (ad 22)] : List Value).set 15 (.int x)))) H) : PP g (WX g ad (xv S 15 x)) H := h
theorem dxf15 {g : GG} {ad : Nat → Nat} {S : XS} {x : Int32} {A : Nat → Prop} (h : va_D A ((WX g ad S).set 0 (ad 0, .inr (0, ([.ref (ad 1), .ref (ad 29), .ref (ad 33), .ref (ad 20), .int (S.1 4), .ref (ad 21), .ref (ad 8), .ref (ad 9), .int (S.1 8), .ref (ad 10), .ref (ad 11), .ref (ad 16), .int (S.1 12), .int (S.1 13), .ref (ad 17), .int (S.1 15), .ref (ad 18), .ref (ad 19), .long S.2.2.2.1, .ref (ad 22)] : List Value).set 15 (.int x))))) : va_D A (WX g ad (xv S 15 x)) := h
theorem pxf18 {g : GG} {ad : Nat → Nat} {S : XS} {x : Int64} {H : Heap} (h : PP g ((WX g ad S).set 0 (ad 0, .inr (0, ([.ref (ad 1), .ref (ad 29), .ref (ad 33), .ref (ad 20), .int (S.1 4), .ref (ad 21), .ref (ad 8), .ref (ad 9), .int (S.1 8), .ref (ad 10), .ref (ad 11), .ref (ad 16), .int (S.1 12), .int (S.1 13), .ref (ad 17), .int (S.1 15), .ref (ad 18), .ref (ad 19), .long S.2.2.2.1, .ref (ad 22)] : List Value).set 18 (.long x)))) H) : PP g (WX g ad (xt S x)) H := h
theorem dxf18 {g : GG} {ad : Nat → Nat} {S : XS} {x : Int64} {A : Nat → Prop} (h : va_D A ((WX g ad S).set 0 (ad 0, .inr (0, ([.ref (ad 1), .ref (ad 29), .ref (ad 33), .ref (ad 20), .int (S.1 4), .ref (ad 21), .ref (ad 8), .ref (ad 9), .int (S.1 8), .ref (ad 10), .ref (ad 11), .ref (ad 16), .int (S.1 12), .int (S.1 13), .ref (ad 17), .int (S.1 15), .ref (ad 18), .ref (ad 19), .long S.2.2.2.1, .ref (ad 22)] : List Value).set 18 (.long x))))) : va_D A (WX g ad (xt S x)) := h
theorem pxr6 {g : GG} {ad : Nat → Nat} {S : XS} {i : Nat} {x : Int32} {H : Heap} (h : PP g ((WX g ad S).set 8 (ad 8, .inl (g.2.2 2, 2, .inl (upd (S.2.1 6) i x)))) H) : PP g (WX g ad (xa S 6 i x)) H := h
theorem dxr6 {g : GG} {ad : Nat → Nat} {S : XS} {i : Nat} {x : Int32} {A : Nat → Prop} (h : va_D A ((WX g ad S).set 8 (ad 8, .inl (g.2.2 2, 2, .inl (upd (S.2.1 6) i x))))) : va_D A (WX g ad (xa S 6 i x)) := h
theorem pxw6 {g : GG} {ad : Nat → Nat} {S : XS} {f : Nat → Int32} {H : Heap} (h : PP g ((WX g ad S).set 8 (ad 8, .inl (g.2.2 2, 2, .inl f))) H) : PP g (WX g ad (xr S 6 f)) H := h
theorem dxw6 {g : GG} {ad : Nat → Nat} {S : XS} {f : Nat → Int32} {A : Nat → Prop} (h : va_D A ((WX g ad S).set 8 (ad 8, .inl (g.2.2 2, 2, .inl f)))) : va_D A (WX g ad (xr S 6 f)) := h
theorem pxr7 {g : GG} {ad : Nat → Nat} {S : XS} {i : Nat} {x : Int32} {H : Heap} (h : PP g ((WX g ad S).set 9 (ad 9, .inl (g.2.2 1, 200, .inl (upd (S.2.1 7) i x)))) H) : PP g (WX g ad (xa S 7 i x)) H := h
theorem dxr7 {g : GG} {ad : Nat → Nat} {S : XS} {i : Nat} {x : Int32} {A : Nat → Prop} (h : va_D A ((WX g ad S).set 9 (ad 9, .inl (g.2.2 1, 200, .inl (upd (S.2.1 7) i x))))) : va_D A (WX g ad (xa S 7 i x)) := h
theorem pxw7 {g : GG} {ad : Nat → Nat} {S : XS} {f : Nat → Int32} {H : Heap} (h : PP g ((WX g ad S).set 9 (ad 9, .inl (g.2.2 1, 200, .inl f))) H) : PP g (WX g ad (xr S 7 f)) H := h
theorem dxw7 {g : GG} {ad : Nat → Nat} {S : XS} {f : Nat → Int32} {A : Nat → Prop} (h : va_D A ((WX g ad S).set 9 (ad 9, .inl (g.2.2 1, 200, .inl f)))) : va_D A (WX g ad (xr S 7 f)) := h
theorem pxr9 {g : GG} {ad : Nat → Nat} {S : XS} {i : Nat} {x : Int32} {H : Heap} (h : PP g ((WX g ad S).set 10 (ad 10, .inl (g.2.2 0, 6, .inl (upd (S.2.1 9) i x)))) H) : PP g (WX g ad (xa S 9 i x)) H := h
theorem dxr9 {g : GG} {ad : Nat → Nat} {S : XS} {i : Nat} {x : Int32} {A : Nat → Prop} (h : va_D A ((WX g ad S).set 10 (ad 10, .inl (g.2.2 0, 6, .inl (upd (S.2.1 9) i x))))) : va_D A (WX g ad (xa S 9 i x)) := h
theorem pxw9 {g : GG} {ad : Nat → Nat} {S : XS} {f : Nat → Int32} {H : Heap} (h : PP g ((WX g ad S).set 10 (ad 10, .inl (g.2.2 0, 6, .inl f))) H) : PP g (WX g ad (xr S 9 f)) H := h
theorem dxw9 {g : GG} {ad : Nat → Nat} {S : XS} {f : Nat → Int32} {A : Nat → Prop} (h : va_D A ((WX g ad S).set 10 (ad 10, .inl (g.2.2 0, 6, .inl f)))) : va_D A (WX g ad (xr S 9 f)) := h
theorem pxr11 {g : GG} {ad : Nat → Nat} {S : XS} {i : Nat} {x : Int32} {H : Heap} (h : PP g ((WX g ad S).set 16 (ad 16, .inl (g.2.2 0, 4, .inl (upd (S.2.1 11) i x)))) H) : PP g (WX g ad (xa S 11 i x)) H := h
theorem dxr11 {g : GG} {ad : Nat → Nat} {S : XS} {i : Nat} {x : Int32} {A : Nat → Prop} (h : va_D A ((WX g ad S).set 16 (ad 16, .inl (g.2.2 0, 4, .inl (upd (S.2.1 11) i x))))) : va_D A (WX g ad (xa S 11 i x)) := h
theorem pxw11 {g : GG} {ad : Nat → Nat} {S : XS} {f : Nat → Int32} {H : Heap} (h : PP g ((WX g ad S).set 16 (ad 16, .inl (g.2.2 0, 4, .inl f))) H) : PP g (WX g ad (xr S 11 f)) H := h
theorem dxw11 {g : GG} {ad : Nat → Nat} {S : XS} {f : Nat → Int32} {A : Nat → Prop} (h : va_D A ((WX g ad S).set 16 (ad 16, .inl (g.2.2 0, 4, .inl f)))) : va_D A (WX g ad (xr S 11 f)) := h
theorem pxr14 {g : GG} {ad : Nat → Nat} {S : XS} {i : Nat} {x : Int32} {H : Heap} (h : PP g ((WX g ad S).set 17 (ad 17, .inl (g.2.2 0, 5, .inl (upd (S.2.1 14) i x)))) H) : PP g (WX g ad (xa S 14 i x)) H := h
theorem dxr14 {g : GG} {ad : Nat → Nat} {S : XS} {i : Nat} {x : Int32} {A : Nat → Prop} (h : va_D A ((WX g ad S).set 17 (ad 17, .inl (g.2.2 0, 5, .inl (upd (S.2.1 14) i x))))) : va_D A (WX g ad (xa S 14 i x)) := h
theorem pxw14 {g : GG} {ad : Nat → Nat} {S : XS} {f : Nat → Int32} {H : Heap} (h : PP g ((WX g ad S).set 17 (ad 17, .inl (g.2.2 0, 5, .inl f))) H) : PP g (WX g ad (xr S 14 f)) H := h
theorem dxw14 {g : GG} {ad : Nat → Nat} {S : XS} {f : Nat → Int32} {A : Nat → Prop} (h : va_D A ((WX g ad S).set 17 (ad 17, .inl (g.2.2 0, 5, .inl f)))) : va_D A (WX g ad (xr S 14 f)) := h
theorem pxr16 {g : GG} {ad : Nat → Nat} {S : XS} {i : Nat} {x : Int32} {H : Heap} (h : PP g ((WX g ad S).set 18 (ad 18, .inl (g.2.2 0, 4, .inl (upd (S.2.1 16) i x)))) H) : PP g (WX g ad (xa S 16 i x)) H := h
theorem dxr16 {g : GG} {ad : Nat → Nat} {S : XS} {i : Nat} {x : Int32} {A : Nat → Prop} (h : va_D A ((WX g ad S).set 18 (ad 18, .inl (g.2.2 0, 4, .inl (upd (S.2.1 16) i x))))) : va_D A (WX g ad (xa S 16 i x)) := h
theorem pxw16 {g : GG} {ad : Nat → Nat} {S : XS} {f : Nat → Int32} {H : Heap} (h : PP g ((WX g ad S).set 18 (ad 18, .inl (g.2.2 0, 4, .inl f))) H) : PP g (WX g ad (xr S 16 f)) H := h
theorem dxw16 {g : GG} {ad : Nat → Nat} {S : XS} {f : Nat → Int32} {A : Nat → Prop} (h : va_D A ((WX g ad S).set 18 (ad 18, .inl (g.2.2 0, 4, .inl f)))) : va_D A (WX g ad (xr S 16 f)) := h
theorem pxr17 {g : GG} {ad : Nat → Nat} {S : XS} {i : Nat} {x : Int32} {H : Heap} (h : PP g ((WX g ad S).set 19 (ad 19, .inl (g.2.2 0, 4, .inl (upd (S.2.1 17) i x)))) H) : PP g (WX g ad (xa S 17 i x)) H := h
theorem dxr17 {g : GG} {ad : Nat → Nat} {S : XS} {i : Nat} {x : Int32} {A : Nat → Prop} (h : va_D A ((WX g ad S).set 19 (ad 19, .inl (g.2.2 0, 4, .inl (upd (S.2.1 17) i x))))) : va_D A (WX g ad (xa S 17 i x)) := h
theorem pxw17 {g : GG} {ad : Nat → Nat} {S : XS} {f : Nat → Int32} {H : Heap} (h : PP g ((WX g ad S).set 19 (ad 19, .inl (g.2.2 0, 4, .inl f))) H) : PP g (WX g ad (xr S 17 f)) H := h
theorem dxw17 {g : GG} {ad : Nat → Nat} {S : XS} {f : Nat → Int32} {A : Nat → Prop} (h : va_D A ((WX g ad S).set 19 (ad 19, .inl (g.2.2 0, 4, .inl f)))) : va_D A (WX g ad (xr S 17 f)) := h
theorem pxr40 {g : GG} {ad : Nat → Nat} {S : XS} {i : Nat} {x : Int32} {H : Heap} (h : PP g ((WX g ad S).set 12 (ad 12, .inl (g.2.2 0, 5, .inl (upd (S.2.1 40) i x)))) H) : PP g (WX g ad (xa S 40 i x)) H := h
theorem dxr40 {g : GG} {ad : Nat → Nat} {S : XS} {i : Nat} {x : Int32} {A : Nat → Prop} (h : va_D A ((WX g ad S).set 12 (ad 12, .inl (g.2.2 0, 5, .inl (upd (S.2.1 40) i x))))) : va_D A (WX g ad (xa S 40 i x)) := h
theorem pxw40 {g : GG} {ad : Nat → Nat} {S : XS} {f : Nat → Int32} {H : Heap} (h : PP g ((WX g ad S).set 12 (ad 12, .inl (g.2.2 0, 5, .inl f))) H) : PP g (WX g ad (xr S 40 f)) H := h
theorem dxw40 {g : GG} {ad : Nat → Nat} {S : XS} {f : Nat → Int32} {A : Nat → Prop} (h : va_D A ((WX g ad S).set 12 (ad 12, .inl (g.2.2 0, 5, .inl f)))) : va_D A (WX g ad (xr S 40 f)) := h
theorem pxr41 {g : GG} {ad : Nat → Nat} {S : XS} {i : Nat} {x : Int32} {H : Heap} (h : PP g ((WX g ad S).set 13 (ad 13, .inl (g.2.2 0, 5, .inl (upd (S.2.1 41) i x)))) H) : PP g (WX g ad (xa S 41 i x)) H := h
theorem dxr41 {g : GG} {ad : Nat → Nat} {S : XS} {i : Nat} {x : Int32} {A : Nat → Prop} (h : va_D A ((WX g ad S).set 13 (ad 13, .inl (g.2.2 0, 5, .inl (upd (S.2.1 41) i x))))) : va_D A (WX g ad (xa S 41 i x)) := h
theorem pxw41 {g : GG} {ad : Nat → Nat} {S : XS} {f : Nat → Int32} {H : Heap} (h : PP g ((WX g ad S).set 13 (ad 13, .inl (g.2.2 0, 5, .inl f))) H) : PP g (WX g ad (xr S 41 f)) H := h
theorem dxw41 {g : GG} {ad : Nat → Nat} {S : XS} {f : Nat → Int32} {A : Nat → Prop} (h : va_D A ((WX g ad S).set 13 (ad 13, .inl (g.2.2 0, 5, .inl f)))) : va_D A (WX g ad (xr S 41 f)) := h
theorem pxr42 {g : GG} {ad : Nat → Nat} {S : XS} {i : Nat} {x : Int32} {H : Heap} (h : PP g ((WX g ad S).set 14 (ad 14, .inl (g.2.2 0, 5, .inl (upd (S.2.1 42) i x)))) H) : PP g (WX g ad (xa S 42 i x)) H := h
theorem dxr42 {g : GG} {ad : Nat → Nat} {S : XS} {i : Nat} {x : Int32} {A : Nat → Prop} (h : va_D A ((WX g ad S).set 14 (ad 14, .inl (g.2.2 0, 5, .inl (upd (S.2.1 42) i x))))) : va_D A (WX g ad (xa S 42 i x)) := h
theorem pxw42 {g : GG} {ad : Nat → Nat} {S : XS} {f : Nat → Int32} {H : Heap} (h : PP g ((WX g ad S).set 14 (ad 14, .inl (g.2.2 0, 5, .inl f))) H) : PP g (WX g ad (xr S 42 f)) H := h
theorem dxw42 {g : GG} {ad : Nat → Nat} {S : XS} {f : Nat → Int32} {A : Nat → Prop} (h : va_D A ((WX g ad S).set 14 (ad 14, .inl (g.2.2 0, 5, .inl f)))) : va_D A (WX g ad (xr S 42 f)) := h
theorem pxr43 {g : GG} {ad : Nat → Nat} {S : XS} {i : Nat} {x : Int32} {H : Heap} (h : PP g ((WX g ad S).set 15 (ad 15, .inl (g.2.2 0, 5, .inl (upd (S.2.1 43) i x)))) H) : PP g (WX g ad (xa S 43 i x)) H := h
theorem dxr43 {g : GG} {ad : Nat → Nat} {S : XS} {i : Nat} {x : Int32} {A : Nat → Prop} (h : va_D A ((WX g ad S).set 15 (ad 15, .inl (g.2.2 0, 5, .inl (upd (S.2.1 43) i x))))) : va_D A (WX g ad (xa S 43 i x)) := h
theorem pxw43 {g : GG} {ad : Nat → Nat} {S : XS} {f : Nat → Int32} {H : Heap} (h : PP g ((WX g ad S).set 15 (ad 15, .inl (g.2.2 0, 5, .inl f))) H) : PP g (WX g ad (xr S 43 f)) H := h
theorem dxw43 {g : GG} {ad : Nat → Nat} {S : XS} {f : Nat → Int32} {A : Nat → Prop} (h : va_D A ((WX g ad S).set 15 (ad 15, .inl (g.2.2 0, 5, .inl f)))) : va_D A (WX g ad (xr S 43 f)) := h
theorem pxn0 {g : GG} {ad : Nat → Nat} {S : XS} {x : Int32} {H : Heap} (h : PP g ((WX g ad S).set 29 (ad 29, .inr (2, ([.int ((S.2.2.1 0).1 0), .int ((S.2.2.1 0).1 1), .int ((S.2.2.1 0).1 2), .ref (ad 30), .ref (ad 31), .ref (ad 32), .int ((S.2.2.1 0).1 6)] : List Value).set 0 (.int x)))) H) : PP g (WX g ad (xi S 0 (iv (S.2.2.1 0) 0 x))) H := h
theorem dxn0 {g : GG} {ad : Nat → Nat} {S : XS} {x : Int32} {A : Nat → Prop} (h : va_D A ((WX g ad S).set 29 (ad 29, .inr (2, ([.int ((S.2.2.1 0).1 0), .int ((S.2.2.1 0).1 1), .int ((S.2.2.1 0).1 2), .ref (ad 30), .ref (ad 31), .ref (ad 32), .int ((S.2.2.1 0).1 6)] : List Value).set 0 (.int x))))) : va_D A (WX g ad (xi S 0 (iv (S.2.2.1 0) 0 x))) := h
theorem pxn1 {g : GG} {ad : Nat → Nat} {S : XS} {x : Int32} {H : Heap} (h : PP g ((WX g ad S).set 29 (ad 29, .inr (2, ([.int ((S.2.2.1 0).1 0), .int ((S.2.2.1 0).1 1), .int ((S.2.2.1 0).1 2), .ref (ad 30), .ref (ad 31), .ref (ad 32), .int ((S.2.2.1 0).1 6)] : List Value).set 1 (.int x)))) H) : PP g (WX g ad (xi S 0 (iv (S.2.2.1 0) 1 x))) H := h
theorem dxn1 {g : GG} {ad : Nat → Nat} {S : XS} {x : Int32} {A : Nat → Prop} (h : va_D A ((WX g ad S).set 29 (ad 29, .inr (2, ([.int ((S.2.2.1 0).1 0), .int ((S.2.2.1 0).1 1), .int ((S.2.2.1 0).1 2), .ref (ad 30), .ref (ad 31), .ref (ad 32), .int ((S.2.2.1 0).1 6)] : List Value).set 1 (.int x))))) : va_D A (WX g ad (xi S 0 (iv (S.2.2.1 0) 1 x))) := h
theorem pxn2 {g : GG} {ad : Nat → Nat} {S : XS} {x : Int32} {H : Heap} (h : PP g ((WX g ad S).set 29 (ad 29, .inr (2, ([.int ((S.2.2.1 0).1 0), .int ((S.2.2.1 0).1 1), .int ((S.2.2.1 0).1 2), .ref (ad 30), .ref (ad 31), .ref (ad 32), .int ((S.2.2.1 0).1 6)] : List Value).set 2 (.int x)))) H) : PP g (WX g ad (xi S 0 (iv (S.2.2.1 0) 2 x))) H := h
theorem dxn2 {g : GG} {ad : Nat → Nat} {S : XS} {x : Int32} {A : Nat → Prop} (h : va_D A ((WX g ad S).set 29 (ad 29, .inr (2, ([.int ((S.2.2.1 0).1 0), .int ((S.2.2.1 0).1 1), .int ((S.2.2.1 0).1 2), .ref (ad 30), .ref (ad 31), .ref (ad 32), .int ((S.2.2.1 0).1 6)] : List Value).set 2 (.int x))))) : va_D A (WX g ad (xi S 0 (iv (S.2.2.1 0) 2 x))) := h
theorem pxn6 {g : GG} {ad : Nat → Nat} {S : XS} {x : Int32} {H : Heap} (h : PP g ((WX g ad S).set 29 (ad 29, .inr (2, ([.int ((S.2.2.1 0).1 0), .int ((S.2.2.1 0).1 1), .int ((S.2.2.1 0).1 2), .ref (ad 30), .ref (ad 31), .ref (ad 32), .int ((S.2.2.1 0).1 6)] : List Value).set 6 (.int x)))) H) : PP g (WX g ad (xi S 0 (iv (S.2.2.1 0) 6 x))) H := h
theorem dxn6 {g : GG} {ad : Nat → Nat} {S : XS} {x : Int32} {A : Nat → Prop} (h : va_D A ((WX g ad S).set 29 (ad 29, .inr (2, ([.int ((S.2.2.1 0).1 0), .int ((S.2.2.1 0).1 1), .int ((S.2.2.1 0).1 2), .ref (ad 30), .ref (ad 31), .ref (ad 32), .int ((S.2.2.1 0).1 6)] : List Value).set 6 (.int x))))) : va_D A (WX g ad (xi S 0 (iv (S.2.2.1 0) 6 x))) := h
theorem pxm3 {g : GG} {ad : Nat → Nat} {S : XS} {i : Nat} {x : Int32} {H : Heap} (h : PP g ((WX g ad S).set 30 (ad 30, .inl (g.2.2 0, 6, .inl (upd ((S.2.2.1 0).2 3) i x)))) H) : PP g (WX g ad (xi S 0 (ia (S.2.2.1 0) 3 i x))) H := h
theorem dxm3 {g : GG} {ad : Nat → Nat} {S : XS} {i : Nat} {x : Int32} {A : Nat → Prop} (h : va_D A ((WX g ad S).set 30 (ad 30, .inl (g.2.2 0, 6, .inl (upd ((S.2.2.1 0).2 3) i x))))) : va_D A (WX g ad (xi S 0 (ia (S.2.2.1 0) 3 i x))) := h
theorem pxm4 {g : GG} {ad : Nat → Nat} {S : XS} {i : Nat} {x : Int32} {H : Heap} (h : PP g ((WX g ad S).set 31 (ad 31, .inl (g.2.2 0, 6, .inl (upd ((S.2.2.1 0).2 4) i x)))) H) : PP g (WX g ad (xi S 0 (ia (S.2.2.1 0) 4 i x))) H := h
theorem dxm4 {g : GG} {ad : Nat → Nat} {S : XS} {i : Nat} {x : Int32} {A : Nat → Prop} (h : va_D A ((WX g ad S).set 31 (ad 31, .inl (g.2.2 0, 6, .inl (upd ((S.2.2.1 0).2 4) i x))))) : va_D A (WX g ad (xi S 0 (ia (S.2.2.1 0) 4 i x))) := h
theorem pxm5 {g : GG} {ad : Nat → Nat} {S : XS} {i : Nat} {x : Int32} {H : Heap} (h : PP g ((WX g ad S).set 32 (ad 32, .inl (g.2.2 0, 5, .inl (upd ((S.2.2.1 0).2 5) i x)))) H) : PP g (WX g ad (xi S 0 (ia (S.2.2.1 0) 5 i x))) H := h
theorem dxm5 {g : GG} {ad : Nat → Nat} {S : XS} {i : Nat} {x : Int32} {A : Nat → Prop} (h : va_D A ((WX g ad S).set 32 (ad 32, .inl (g.2.2 0, 5, .inl (upd ((S.2.2.1 0).2 5) i x))))) : va_D A (WX g ad (xi S 0 (ia (S.2.2.1 0) 5 i x))) := h
