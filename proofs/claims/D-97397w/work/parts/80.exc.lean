/-! methods that throw: contracts, rows of throwing, of passing on, of catching -/
set_option maxRecDepth 100000
def sm_FT (s t : State) (L : List Loc) (k n : Nat) : Prop := s.WarmedH t.vm ∧ s.sameButNew ({ t with vm := s.vm } : State) L k n
def sm_MT (l : Launch) (y : MethodName) (ws : List Cond) (rm : Room) (Pc : Array Value → State → Prop) (Qt : Nat → State → State → Prop) (mc ms : Nat) (free : Addr → Prop) : Prop :=
  MetFree l y (headSpec ws rm) Pc (fun _ _ _ _ _ => True) (fun _ st o t => ∃ x, o = .threw x ∧ Qt x st t ∧ ∃ L, sm_FT st t L mc ms ∧ ∀ q ∈ L, free q.base)
def sm_QT (below : List Frame) (Qt : Nat → State → State → Prop) (s : State) (mc ms : Nat) (free : Addr → Prop) : State → Prop := fun t =>
  ∃ x, t.status = .running ∧ Ended t below (.threw x) ∧ Qt x s t ∧ ∃ L, sm_FT s t L mc ms ∧ ∀ q ∈ L, free q.base
theorem sm_stT {l : Launch} {y : MethodName} {rm : Room} {Pc : Array Value → State → Prop} {Qt : Nat → State → State → Prop} {mc ms : Nat} {free : Addr → Prop} {cc : ByteArray} {maxL : Nat} {ret : Option FieldType} (hy : plainName y.cls = true)
    (body : ∀ (p : Program) (e : Env) (s : State) (m : MethodId) (args : Array Value) (below : List Frame) (meth : Method) (c : Code), p.tables.exec = Jvm.exec → c.code = cc → meth.sig.returnType = ret → meth.locks = false → c.maxLocals = maxL → s.vm.findClass y.cls = some m.cls → meth.name = y.name → (∀ w ∈ lw_all, w.before args s = true) → c.exceptionTable.isEmpty = true → Pc args s →
      W p l e rm s m args below meth c s.heap [] 0 0 (sm_QT below Qt s mc ms free) (entryFrame m args maxL)) : sm_MT l y (ws_ y cc maxL ret) rm Pc Qt mc ms free := by
  refine MetFree.of_bodyS (code := cc) (maxLocals := maxL) (ret := ret) hy ?_ ?_
  · intro args s m h hn
    obtain ⟨meth, c, h1, h2, h3, h4, h5, h6, -, -⟩ := Cond.code_spec hn (atoms_spec (ws := ws_ y cc maxL ret) h _ List.mem_cons_self)
    exact ⟨meth, c, h1, h2, h3, h4, h5, h6⟩
  · intro p e s m args below meth c s₁ B hml hP _
    have hh0 : s₁.heap = s.heap := by rw [B.state]; rfl
    have hts := atoms_spec (ws := ws_ y cc maxL ret) B.pre
    obtain ⟨t, a1, x, b1, b2, b3, b4⟩ := body p e s m args below meth c B.exec B.bytes B.returns B.notSynchronized hml (findClass_of_methodNamed B.named) (name_of_methodNamed B.named B.method).1 (fun w h => hts w (List.mem_cons_of_mem _ h)) (B.noHandlers (hts _ List.mem_cons_self)) hP s₁ hh0 (Stand.of_body B)
    exact ⟨t, .threw x, a1, b1, b2, x, rfl, b3, b4⟩
theorem sm_stN {l : Launch} {y : MethodName} {rm : Room} {Pc : Array Value → State → Prop} {Qc : Array Value → State → Outcome → State → Prop} {mc ms : Nat} {free : Addr → Prop} {cc : ByteArray} {maxL : Nat} {ret : Option FieldType} (hy : plainName y.cls = true)
    (body : ∀ (p : Program) (e : Env) (s : State) (m : MethodId) (args : Array Value) (below : List Frame) (meth : Method) (c : Code), p.tables.exec = Jvm.exec → c.code = cc → meth.sig.returnType = ret → meth.locks = false → c.maxLocals = maxL → s.vm.findClass y.cls = some m.cls → meth.name = y.name → (∀ w ∈ lw_all, w.before args s = true) → c.exceptionTable.isEmpty = true → Pc args s →
      W p l e rm s m args below meth c s.heap [] 0 0 (MQ below Qc args s mc ms free) (entryFrame m args maxL)) : Met l y (ws_ y cc maxL ret) rm Pc Qc mc ms free := by
  refine Met.ofW (cc := cc) (maxL := maxL) (ret := ret) hy rfl ?_
  intro p e s m args below meth c s₁ B hml hv
  have hts := atoms_spec (ws := ws_ y cc maxL ret) B.pre
  exact body p e s m args below meth c B.exec B.bytes B.returns B.notSynchronized hml (findClass_of_methodNamed B.named) (name_of_methodNamed B.named B.method).1 (fun w h => hts w (List.mem_cons_of_mem _ h)) (B.noHandlers (hts _ List.mem_cons_self)) hv
/-- what a method does that may throw: by what it comes to -/
def sm_MB {α : Type} (l : Launch) (y : MethodName) (ws : List Cond) (rm : α ⊕ Int32 → Room) (Pc : Array Value → State → Prop) (of : α ⊕ Int32) (Qn : α → Array Value → State → Outcome → State → Prop) (Qt : Int32 → Nat → State → State → Prop) (free : Addr → Prop) : Prop := match of with
  | .inl r => Met l y ws (rm (.inl r)) Pc (Qn r) 0 0 free
  | .inr x => sm_MT l y ws (rm (.inr x)) Pc (Qt x) 1 7 free
def sm_QB {α : Type} (below : List Frame) (args : Array Value) (s : State) (of : α ⊕ Int32) (Qn : α → Array Value → State → Outcome → State → Prop) (Qt : Int32 → Nat → State → State → Prop) (free : Addr → Prop) : State → Prop := match of with
  | .inl r => MQ below (Qn r) args s 0 0 free
  | .inr x => sm_QT below (Qt x) s 1 7 free
abbrev sm_rB {α : Type} (fr lo : Nat) (of : α ⊕ Int32) : Room := { frames := fr, cells := Sum.elim (fun _ => 0) (fun _ => 1) of, slots := Sum.elim (fun _ => 0) (fun _ => 7) of, locals := lo }
theorem sm_stB {α : Type} {l : Launch} {y : MethodName} {fr lo : Nat} {Pc : Array Value → State → Prop} {of : α ⊕ Int32} {Qn : α → Array Value → State → Outcome → State → Prop} {Qt : Int32 → Nat → State → State → Prop} {free : Addr → Prop} {cc : ByteArray} {maxL : Nat} {ret : Option FieldType} (hy : plainName y.cls = true)
    (body : ∀ (p : Program) (e : Env) (s : State) (m : MethodId) (args : Array Value) (below : List Frame) (meth : Method) (c : Code), p.tables.exec = Jvm.exec → c.code = cc → meth.sig.returnType = ret → meth.locks = false → c.maxLocals = maxL → s.vm.findClass y.cls = some m.cls → meth.name = y.name → (∀ w ∈ lw_all, w.before args s = true) → c.exceptionTable.isEmpty = true → Pc args s →
      W p l e (sm_rB fr lo of) s m args below meth c s.heap [] 0 0 (sm_QB below args s of Qn Qt free) (entryFrame m args maxL)) : sm_MB l y (ws_ y cc maxL ret) (sm_rB fr lo) Pc of Qn Qt free := by
  cases of with
  | inl r => exact sm_stN hy body
  | inr x => exact sm_stT hy body
section SME
variable {p : Program} {l : Launch} {e : Env} {R : Room} {s : State} {m : MethodId} {args : Array Value} {below : List Frame} {meth : Method} {c : Code} {H : Heap} {locs : List Loc} {cells slots : Nat} {Q : State → Prop}
  {Ts ws ws' : List Cond} {cc bytes : ByteArray} {nL maxL index n mc ms : Nat} {own C : String} {y : MethodName} {ret : Option FieldType} {rm : Room} {Pc : Array Value → State → Prop} {Qt : Nat → State → State → Prop} {free : Addr → Prop}
  {b : Addr} {As rest : List Value} {g : JFrame} {pc : Nat} {ls : Array Slot} {st0 : List Value}
/-- a call that ends in a throw -/
def sm_Run (p : Program) (l : Launch) (e : Env) (R : Room) (s : State) (m : MethodId) (args : Array Value) (below : List Frame) (meth : Method) (c : Code) (H : Heap) (locs : List Loc) (cells slots mc ms : Nat) (g : JFrame) (rest : List Value) (Qt : Nat → State → State → Prop) (free : Addr → Prop) : Prop :=
  ∀ T : State, T.heap = H → Stand p l e R s m args below meth c T locs cells slots → ∃ (x : Nat) (st₀ t T' : State) (L : List Loc), st₀.heap = H ∧ Stand p l e R s m args below meth c T' (locs ++ L) (cells + mc) (slots + ms) ∧ (∀ q ∈ L, free q.base) ∧ T'.heap = t.heap ∧ T'.vm = t.vm ∧ Qt x st₀ t ∧
    ∀ target, Steps p.tables e below ((T'.setTop { g with stack := rest }).pushFrame (.throwing x)) target → Steps p.tables e below (T.setTop g) target
theorem sm_core {U : State} {Ls : List Loc} {c0 s0 : Nat} (X : Stand p l e R s m args below meth c U Ls c0 s0) {g : JFrame} (hg : g.method = m) (hsize : g.locals.size = c.maxLocals) {ig : Instr} {len : Nat} (hdg : decode c.code g.pc = .ok (ig, len)) (hW : 2 * g.monitorRoom + (g.stack.map fun v => v.category).sum ≤ 8) {mk : MethodId} (hn : U.methodNamed? y = some mk) {a : Array Value}
    (hM : sm_MT l y ws rm Pc Qt mc ms free) (hblind : FrameBlind Pc) (hrc : rm.cells = mc) (hrs : rm.slots = ms) (hframes : rm.frames + 1 ≤ R.frames) (hlocals : 8 + (maxL + 11) + rm.locals ≤ R.locals)
    (hws : ∀ w ∈ ws, ∀ (a' : Array Value) (U : State), s.WarmedH U.vm → w.before a' U = true) (hcode : Cond.code y bytes maxL ret ∈ ws) (hinit : ∀ (a' : Array Value) (U : State), s.WarmedH U.vm → (Cond.initialized y.cls).before a' U = true)
    (h4 : c0 + mc ≤ R.cells) (h5 : s0 + ms ≤ R.slots) (hp : Pc a U) :
    ∃ (x : Nat) (t T' : State) (L : List Loc), Stand p l e R s m args below meth c T' (Ls ++ L) (c0 + mc) (s0 + ms) ∧ (∀ q ∈ L, free q.base) ∧ T'.heap = t.heap ∧ T'.vm = t.vm ∧ Qt x (U.calling g mk a) t ∧
      Steps p.tables e below (doInvoke e (U.setTop g) [] mk a).1 ((T'.setTop g).pushFrame (.throwing x)) := by
  have h1 : (headSpec ws rm).pre.before a U = true := atoms_intro fun w hw => hws w hw _ _ X.warmed
  have h2 := hws _ hcode a U X.warmed
  have h3 := hinit a U X.warmed
  obtain ⟨methY, cY, hmY, hcY, -, hlY, -, -, -, -⟩ := Cond.code_spec hn h2
  obtain ⟨kY, hkY, -⟩ := className_of_methodNamed hn
  have hinitY : kY.init = .initialized := Cond.initialized_spec (findClass_of_methodNamed hn) hkY h3
  have h : At U g.method c below := by rw [hg]; exact X.here
  have happ : (headSpec ws rm).appliesLoose y e.platform (U.calling g mk a) = true :=
    Spec.appliesLoose_calling (g := g) h hdg hn hkY hinitY
      (X.room_calling (g := g) (R' := (headSpec ws rm).room) hsize hmY hcY hframes (by rw [hlY]; show _ + rm.locals ≤ _; omega) (by show _ + rm.cells ≤ _; omega) (by show _ + rm.slots ≤ _; omega)) h1
  obtain ⟨mid, hmid⟩ := h.above
  have hfr : (U.setTop g).frames = (.java g :: mid) ++ below := by rw [State.frames_setTop' g h.top, hmid]; rfl
  obtain ⟨o, s₂, hsteps, -, hend, hq⟩ := Steps.callFree hM p X.admits X.cas X.clock (acts := []) hfr happ (hblind _ _ _ _ hp) trivial
  rw [State.frames_setTop' g h.top] at hend
  have hq : ∃ x, o = .threw x ∧ Qt x (U.calling g mk a) s₂ ∧ ∃ L, sm_FT (U.calling g mk a) s₂ L mc ms ∧ ∀ q ∈ L, free q.base := hq
  obtain ⟨x, rfl, hq, L, ⟨hW₂, e2, q2, q3, q4, q5, q6⟩, hL⟩ := hq
  have e3 : s₂ = ({ (U.calling g mk a).setFrames s₂.frames with heap := s₂.heap, slotsUsed := s₂.slotsUsed } : State).setVm s₂.vm := by
    have : s₂ = ({ s₂ with vm := (U.calling g mk a).vm } : State).setVm s₂.vm := rfl
    rw [e2] at this
    exact this
  have hf₂ : s₂.frames = .throwing x :: .java g :: U.frames.tail := hend
  have hW' : U.WarmedH s₂.vm := hW₂
  obtain ⟨g₀, hg0⟩ := Option.isSome_iff_exists.mp h.top
  obtain ⟨r, hr⟩ := State.topJava?_eq_some.mp hg0
  have hr' : (({ U with heap := s₂.heap, slotsUsed := s₂.slotsUsed } : State).setVm s₂.vm).frames = .java g₀ :: r := hr
  have hs₂ : s₂ = ((({ U with heap := s₂.heap, slotsUsed := s₂.slotsUsed } : State).setVm s₂.vm).setTop g).pushFrame (.throwing x) := by
    refine e3.trans ?_
    rw [hf₂, State.calling_eq h.top, State.setFrames_setFrames, State.pushFrame, State.frames_setTop _ hr', State.setTop_of_frames _ hr', State.setFrames_setFrames, hr]
    rfl
  have hsame : U.sameButNew ({ U with heap := s₂.heap, slotsUsed := s₂.slotsUsed } : State) L mc ms := by
    refine ⟨?_, q2, q3, q4, q5, q6⟩
    obtain ⟨t, ht, -⟩ := State.frames_cons hr
    show ({ U with heap := s₂.heap, slotsUsed := s₂.slotsUsed } : State) = { U.setFrames U.frames with heap := s₂.heap, slotsUsed := s₂.slotsUsed }
    rw [State.setFrames_self ht]
  subst hg
  refine ⟨x, s₂, (({ U with heap := s₂.heap, slotsUsed := s₂.slotsUsed } : State).setVm s₂.vm), L,
    ⟨X.admits, X.cas, X.clock, X.frames, X.room, X.hears, X.method, X.code, (X.here.setHeapUsed s₂.heap s₂.slotsUsed).setVm hW'.alike, X.tail, State.WarmedH.trans X.warmed hW', X.limits, X.bytes, X.same.trans (hsame.setVm s.vm)⟩, hL, rfl, rfl, hq, ?_⟩
  rw [← hs₂]
  exact hsteps
theorem sm_runTV (S : CallFix p m c cc nL s args Ts own) (hM : sm_MT l y ws rm Pc Qt mc ms free) (cw : CallW R s args own C index y bytes maxL ret ws rm mc ms n) (hp : PreV s H C b Pc As)
    (hg : g.method = m) (hn : As.length = n) (hsize : g.locals.size = nL) (hstack : g.stack = As.reverse ++ .ref b :: rest) (hW : 2 * g.monitorRoom + (rest.map fun v => v.category).sum ≤ 8) (hdg : decode cc g.pc = .ok (.invokevirtual index, 3)) (hf : cells + mc ≤ R.cells ∧ slots + ms ≤ R.slots) :
    sm_Run p l e R s m args below meth c H locs cells slots mc ms g rest Qt free := by
  obtain ⟨⟨hrc, hrs, hfr, hlo, hws, hcw, hcode, hini, hy, hlen, hl⟩, hinst, hsel⟩ := cw
  obtain ⟨hexec, hb, hml, hown, -⟩ := S
  obtain ⟨hblind, ⟨cellB, hcell, hobj, hcls⟩, hPc⟩ := hp
  intro T hT X
  obtain ⟨mk, methM, hnamed, hmethM, hstM, habM⟩ := Cond.instanceMethod_spec hinst
  obtain ⟨methM', cM, hmethM', -, -, -, -, -, -, hsigM⟩ := Cond.code_spec hnamed hcode
  cases hmethM.symm.trans hmethM'
  obtain ⟨c2, r2, m2, q1, q2, q3, q4, kP, hkP, hkPi⟩ := Cond.selects_spec hsel
  cases hcls.symm.trans q1
  cases (State.methodFound?_of_named hnamed hy).symm.trans q2
  cases hnamed.symm.trans q3
  have hselP : selectMethod e.platform s.vm cellB.cls mk = .method mk := by rw [Launch.admits_selectMethod X.admits]; exact q4
  obtain ⟨vm₁, X₁, hstep₁⟩ := X.invokevirtual hexec hown hl hnamed hmethM hstM hkP hkPi hy (a := b) (cell := cellB) (by rw [hT]; exact hcell)
    (fun z h => by rw [h] at hobj; cases hobj) hselP hmethM habM hkP hkPi (g := g) hg (argsL := As) (rest := rest) (by rw [hn]; exact hlen _ hsigM) hstack (by rw [hb]; exact hdg)
  obtain ⟨x, t, T', L, X', hL, e1, e2, hq, hsteps⟩ := sm_core X₁ (g := { g with stack := rest }) hg (hsize.trans hml.symm) (by rw [hb]; exact hdg) hW (X₁.named hnamed) (a := (Value.ref b :: As).toArray) hM hblind hrc hrs hfr hlo hws hcw
    (fun a' U hW => word_at hW (Or.inl (by first | rfl | simp [Cond.onTables, Cond.keeps, Cond.steady])) hini) hf.1 hf.2 (hPc (T.setVm vm₁) hT X₁.warmed)
  exact ⟨x, (T.setVm vm₁).calling { g with stack := rest } mk (Value.ref b :: As).toArray, t, T', L, hT, X', hL, e1, e2, hq, fun target h => hstep₁ _ fun acts => by rw [doInvoke_state]; exact hsteps.trans h⟩
def sm_Xt (PT : Nat → Heap → Prop) (A : Nat → Prop) : Nat → State → State → Prop := fun x st t => PT x t.heap ∧ va_F A st t
theorem sm_frT {A : Nat → Prop} {H0 H H1 : Heap} {locs L : List Loc} {st0 t : State} (hS : va_S A H0 H locs) (h0 : st0.heap = H) (hF : va_F A st0 t) (ht : t.heap = H1) (hL : ∀ q ∈ L, A q.base) : va_S A H0 H1 (locs ++ L) := by
  obtain ⟨f1, f2⟩ := hF
  rw [h0, ht] at f1 f2
  refine ⟨Nat.le_trans hS.1 f1, fun q h1 h2 => (f2 q (Nat.lt_of_lt_of_le h1 hS.1) h2).trans (hS.2.1 q h1 h2), fun q hq => ?_⟩
  rcases List.mem_append.mp hq with h | h
  · exact hS.2.2 q h
  · exact hL q h
/-- the call throws, and there is no handler here: thrown on -/
theorem sm_throwOut {PT PT' : Nat → Heap → Prop} {A : Nat → Prop} (hr : sm_Run p l e R s m args below meth c H locs cells slots mc ms (F0 m pc ls st0) rest (sm_Xt PT A) A) (hS : va_S A s.heap H locs) (hx : c.exceptionTable.isEmpty = true) (hlocks : meth.locks = false)
    (kk : ∀ (x : Nat) (H1 : Heap), s.heap.size ≤ H1.size → PT x H1 → PT' x H1) : W p l e R s m args below meth c H locs cells slots (sm_QT below (sm_Xt PT' A) s (cells + mc) (slots + ms) A) (F0 m pc ls st0) := by
  intro T hT X
  obtain ⟨x, st₀, t, T', L, h0, X', hL, e1, e2, ⟨hp, hF⟩, st⟩ := hr T hT X
  have hS1 := sm_frT hS h0 hF rfl hL
  obtain ⟨hw, hrun, hend, hW, hfr⟩ := X'.leaveThrown x (g := { F0 m pc ls st0 with stack := rest }) rfl rfl rfl (fun z hz => by
    have : c.exceptionTable.toList = [] := by
      have := Array.isEmpty_iff.mp hx
      rw [this]
    rw [this] at hz; cases hz) hlocks
  refine ⟨_, st _ hw, x, hrun, hend, ⟨kk x _ ?_ ?_, ?_⟩, _, ⟨hW, hfr⟩, hS1.2.2⟩
  · show s.heap.size ≤ T'.heap.size
    rw [e1]; exact hS1.1
  · show PT x T'.heap
    rw [e1]; exact hp
  · refine ⟨?_, fun q h1 h2 => ?_⟩
    · show s.heap.size ≤ T'.heap.size
      rw [e1]; exact hS1.1
    · show T'.heap[q]? = _
      rw [e1]; exact hS1.2.1 q h1 h2
/-- thrown here -/
theorem sm_athrow {cc : ByteArray} {PT : Nat → Heap → Prop} {A : Nat → Prop} {x : Nat} (hexec : p.tables.exec = Jvm.exec) (hb : c.code = cc) (hS : va_S A s.heap H locs) (hx : c.exceptionTable.isEmpty = true) (hlocks : meth.locks = false) (hdg : decode cc pc = .ok (.athrow, 1))
    (hp : PT x H) : W p l e R s m args below meth c H locs cells slots (sm_QT below (sm_Xt PT A) s cells slots A) (F0 m pc ls (.ref x :: rest)) := by
  intro T hT X
  obtain ⟨hw, hrun, hend, hW, hfr⟩ := X.athrowLeaves hexec (g := F0 m pc ls (.ref x :: rest)) rfl rfl rfl (fun z hz => by
    have : c.exceptionTable.toList = [] := by
      have := Array.isEmpty_iff.mp hx
      rw [this]
    rw [this] at hz; cases hz) (a := x) (rest := rest) rfl (by rw [hb]; exact hdg) hlocks
  refine ⟨_, hw, x, hrun, hend, ⟨?_, ?_, fun q h1 h2 => ?_⟩, _, ⟨hW, hfr⟩, hS.2.2⟩
  · show PT x T.heap
    rw [hT]; exact hp
  · show s.heap.size ≤ T.heap.size
    rw [hT]; exact hS.1
  · show T.heap[q]? = _
    rw [hT]; exact hS.2.1 q h1 h2
end SME
