/-! SMOKED LETTERS: basics of the walk: decompiled code as functions into Option -/
set_option maxRecDepth 100000
def sm_lp {L R : Type} (step : L → Option (L ⊕ R)) : Nat → L → Option R
  | 0, _ => none
  | n + 1, a => (step a).bind (Sum.elim (sm_lp step n) some)
def FU : Nat := 2000
def sm_gd {α : Type} (b : Bool) (k : Option α) : Option α := if b = true then k else none
theorem sm_gd_e {α : Type} {b : Bool} {k : Option α} {r : α} (h : sm_gd b k = some r) : b = true ∧ k = some r := by
  unfold sm_gd at h
  by_cases hb : b = true
  · rw [if_pos hb] at h; exact ⟨hb, h⟩
  · rw [if_neg hb] at h; cases h
def sm_lt {α β : Type} (a : α) (f : α → β) : β := f a
theorem sm_lt_e {α β : Type} {a : α} {f : α → β} {r : β} (h : sm_lt a f = r) : ∃ z, z = a ∧ f z = r := ⟨a, rfl, h⟩
theorem sm_lt_v {α β : Type} {a : α} {f : α → β} {r : β} (h : sm_lt a f = r) {z : α} (e : z = a) : f z = r := by subst e; exact h
theorem sm_bnd {α β : Type} {a : Option α} {f : α → Option β} {r : β} (h : a.bind f = some r) : ∃ x, a = some x ∧ f x = some r := by
  cases a with
  | none => cases h
  | some x => exact ⟨x, rfl, h⟩
def sm_b1 {α γ : Type} (a : Option α) (f : α → Option γ) : Option γ := a.bind f
theorem sm_b1_e {α γ : Type} {a : Option α} {f : α → Option γ} {r : γ} (h : sm_b1 a f = some r) : ∃ x, a = some x ∧ f x = some r := sm_bnd h
def sm_b2 {α β γ : Type} (a : Option (α × β)) (f : α → β → Option γ) : Option γ := a.bind fun q => f q.1 q.2
theorem sm_b2_e {α β γ : Type} {a : Option (α × β)} {f : α → β → Option γ} {r : γ} (h : sm_b2 a f = some r) : ∃ x y, a = some (x, y) ∧ f x y = some r := by
  obtain ⟨q, h1, h2⟩ := sm_bnd h
  exact ⟨q.1, q.2, h1, h2⟩
def sm_b3 {α β δ γ : Type} (a : Option (α × β × δ)) (f : α → β → δ → Option γ) : Option γ := a.bind fun q => f q.1 q.2.1 q.2.2
theorem sm_b3_e {α β δ γ : Type} {a : Option (α × β × δ)} {f : α → β → δ → Option γ} {r : γ} (h : sm_b3 a f = some r) : ∃ x y z, a = some (x, y, z) ∧ f x y z = some r := by
  obtain ⟨q, h1, h2⟩ := sm_bnd h
  exact ⟨q.1, q.2.1, q.2.2, h1, h2⟩
def sm_b4 {α β δ ε γ : Type} (a : Option (α × β × δ × ε)) (f : α → β → δ → ε → Option γ) : Option γ := a.bind fun q => f q.1 q.2.1 q.2.2.1 q.2.2.2
theorem sm_b4_e {α β δ ε γ : Type} {a : Option (α × β × δ × ε)} {f : α → β → δ → ε → Option γ} {r : γ} (h : sm_b4 a f = some r) : ∃ x y z w, a = some (x, y, z, w) ∧ f x y z w = some r := by
  obtain ⟨q, h1, h2⟩ := sm_bnd h
  exact ⟨q.1, q.2.1, q.2.2.1, q.2.2.2, h1, h2⟩
def sm_b5 {α β δ ε ζ γ : Type} (a : Option (α × β × δ × ε × ζ)) (f : α → β → δ → ε → ζ → Option γ) : Option γ := a.bind fun q => f q.1 q.2.1 q.2.2.1 q.2.2.2.1 q.2.2.2.2
theorem sm_b5_e {α β δ ε ζ γ : Type} {a : Option (α × β × δ × ε × ζ)} {f : α → β → δ → ε → ζ → Option γ} {r : γ} (h : sm_b5 a f = some r) : ∃ x y z w v, a = some (x, y, z, w, v) ∧ f x y z w v = some r := by
  obtain ⟨q, h1, h2⟩ := sm_bnd h
  exact ⟨q.1, q.2.1, q.2.2.1, q.2.2.2.1, q.2.2.2.2, h1, h2⟩
/-- a loop that ends by its condition (left) or returns from within (right) -/
def sm_u1 {α γ : Type} (f : α → γ) (q : α) : γ := f q
def sm_u2 {α β γ : Type} (f : α → β → γ) (q : α × β) : γ := f q.1 q.2
def sm_u3 {α β δ γ : Type} (f : α → β → δ → γ) (q : α × β × δ) : γ := f q.1 q.2.1 q.2.2
def sm_u4 {α β δ ε γ : Type} (f : α → β → δ → ε → γ) (q : α × β × δ × ε) : γ := f q.1 q.2.1 q.2.2.1 q.2.2.2
def sm_r {α ρ γ : Type} (a : Option (α ⊕ ρ)) (f : α → Option γ) (h : ρ → Option γ) : Option γ := a.bind (Sum.elim f h)
theorem sm_r_e {α ρ γ : Type} {a : Option (α ⊕ ρ)} {f : α → Option γ} {h : ρ → Option γ} {r : γ} (q : sm_r a f h = some r) : ∃ x, a = some x ∧ Sum.elim f h x = some r := sm_bnd q
def sm_ib (i : Int32) (n : Nat) : Bool := decide (¬ (i < 0 ∨ n ≤ i.toNatClampNeg))
theorem sm_in {i : Int32} {n : Nat} (h : sm_ib i n = true) : vp_in i n := by
  unfold sm_ib at h
  exact show ¬ (i < 0 ∨ n ≤ i.toNatClampNeg) from of_decide_eq_true h
def sm_nz (y : Int32) : Bool := decide (¬ y = 0)
theorem sm_ne {y : Int32} (h : sm_nz y = true) : ¬ y = 0 := of_decide_eq_true h
def sm_nzl (y : Int64) : Bool := decide (¬ y = 0)
theorem sm_nel {y : Int64} (h : sm_nzl y = true) : ¬ y = 0 := of_decide_eq_true h
def sm_bz (x : Int32) : Bool := decide (x = 0 ∨ x = 1)
theorem sm_bz_nar {x : Int32} (h : sm_bz x = true) : narrow .boolean (.int x) = .int x := by
  rcases of_decide_eq_true h with e | e <;> subst e <;> rfl
theorem sm_bz_fit {x : Int32} (h : sm_bz x = true) : fits .boolean (.int x) = true := by
  rcases of_decide_eq_true h with e | e <;> subst e <;> rfl
theorem sm_bz_vn {x : Int32} (h : sm_bz x = true) : vp_nar .boolean x = x := by
  rcases of_decide_eq_true h with e | e <;> subst e <;> rfl
/-- the words of nest mates, casts and arrays of references, carried by hand -/
def sm_nest : Cond → Bool
  | .fieldLinkNest .. => true
  | .methodLinkNest .. => true
  | .castable .. => true
  | _ => false
def sm_N (U : State) : Prop := ∀ w ∈ lw_tbl, sm_nest w = true → va_Nw w U
theorem sm_nest_on {w : Cond} (h : sm_nest w = true) : w.onTables = true := by
  cases w <;> first | rfl | cases h
theorem sm_N.same {u U : State} (h : u.vm = U.vm) (hN : sm_N u) : sm_N U := fun w hw hn => (hN w hw hn).same (sm_nest_on hn) h
theorem sm_N.warm {s U : State} (hW : s.WarmedH U.vm) (hN : sm_N s) : sm_N U := by
  intro w hw hn
  have h := hN w hw hn
  cases w <;> first | exact h.warmF hW | exact h.warmM hW | exact h.warmC hW | cases hn
theorem sm_N.of {A : Array Value} {U : State} (h : ∀ w ∈ lw_tbl, w.before A U = true) : sm_N U := fun w hw hn => va_Nw.of (sm_nest_on hn) (h w hw)
abbrev GG : Type := (Nat → ClassId) × (Nat → Nat → Nat) × (Nat → ClassId)
