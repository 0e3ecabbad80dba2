set_option maxRecDepth 100000
/-! ===== exceptions: the kit's text (laws/EXCEPTIONS), turned: what is said of a throw names the thrown object ===== -/
section VZ
section
def vz_T (XC : String → Addr → State → State → Prop) (st : State) (q : Addr) (t : State) (mc ms : Nat) (free : Addr → Prop) : Prop :=
  ∃ (E : String) (ce : Cell) (L : List Loc), XC E q st t ∧ t.heap[q]? = some ce ∧ ce.vm = .none ∧ st.vm.findClass E = some ce.cls ∧ st.WarmedH t.vm ∧ st.sameButNew ({ t with vm := st.vm } : State) L mc ms ∧ ∀ z ∈ L, free z.base
end
section
def vz_Q (Qc : Array Value → State → Outcome → State → Prop) (XC : String → Addr → State → State → Prop) (mc ms : Nat) (free : Addr → Prop) : Array Value → State → Outcome → State → Prop := fun a st o t =>
  (Qc a st o t ∧ ∃ L, FrameEnd st o t L mc ms ∧ ∀ q ∈ L, free q.base) ∨ ∃ q, o = .threw q ∧ vz_T XC st q t mc ms free
end
section
def vz_Met (l : Launch) (y : MethodName) (ws : List Cond) (rm : Room) (Pc : Array Value → State → Prop) (Qc : Array Value → State → Outcome → State → Prop) (XC : String → Addr → State → State → Prop) (mc ms : Nat) (free : Addr → Prop) : Prop :=
  MetFree l y (headSpec ws rm) Pc (fun _ _ _ _ _ => True) (vz_Q Qc XC mc ms free)
end
section
def vz_Post (XC : String → Addr → State → State → Prop) (mc ms : Nat) (free : Addr → Prop) : Pt → Array Value → Addr → Pt → Prop := fun A a q B =>
  ∃ (g : JFrame) (mk : MethodId) (t : State) (L : List Loc) (E : String) (ce : Cell), B.U.heap = t.heap ∧ B.U.vm = t.vm ∧ XC E q (A.U.calling g mk a) t ∧ t.heap[q]? = some ce ∧ ce.vm = .none ∧ A.U.vm.findClass E = some ce.cls ∧ B.locs = A.locs ++ L ∧ (∀ z ∈ L, free z.base) ∧ B.cells = A.cells + mc ∧ B.slots = A.slots + ms
end
section
def vz_Back (l : Launch) (R : Room) (p : Program) (e : Env) (below : List Frame) (s : State) (sargs : Array Value) (y : MethodName) (len W9 : Nat)
    (Pre : Pt → Array Value → Prop) (Post : Pt → Array Value → Option Value → Pt → Prop) (PostX : Pt → Array Value → Addr → Pt → Prop) : Prop :=
  ∀ (m : MethodId) (meth : Method) (c : Code) (A : Pt) (g : JFrame) (ig : Instr) (mk : MethodId) (a : Array Value),
    Stand p l e R s m sargs below meth c A.U A.locs A.cells A.slots → g.method = m → g.locals.size = c.maxLocals → decode c.code g.pc = .ok (ig, len) →
    2 * g.monitorRoom + (g.stack.map fun v => v.category).sum ≤ W9 → A.U.methodNamed? y = some mk → Pre A a →
    (∃ (v : Option Value) (B : Pt), Stand p l e R s m sargs below meth c B.U B.locs B.cells B.slots ∧ Post A a v B ∧
      Steps p.tables e below (doInvoke e (A.U.setTop g) [] mk a).1 (B.U.setTop { g with pc := g.pc + len, stack := v.toList ++ g.stack })) ∨
    (∃ (q : Addr) (B : Pt), Stand p l e R s m sargs below meth c B.U B.locs B.cells B.slots ∧ PostX A a q B ∧
      Steps p.tables e below (doInvoke e (A.U.setTop g) [] mk a).1 ((B.U.setTop g).pushFrame (.throwing q)))
end
section
variable {l : Launch} {R : Room} {p : Program} {e : Env} {below : List Frame} {s : State} {sargs : Array Value} {y : MethodName} {len W9 : Nat}
theorem vz_back {ws : List Cond} {rm : Room} {Pc : Array Value → State → Prop} {Qc : Array Value → State → Outcome → State → Prop} {XC : String → Addr → State → State → Prop} {mc ms : Nat} {free : Addr → Prop} {bytes : ByteArray} {maxL : Nat} {ret : Option FieldType}
    (hM : vz_Met l y ws rm Pc Qc XC mc ms free) (hblind : FrameBlind Pc) (hrc : rm.cells = mc) (hrs : rm.slots = ms)
    (hframes : rm.frames + 1 ≤ R.frames) (hlocals : W9 + (maxL + 11) + rm.locals ≤ R.locals)
    (hws : ∀ w ∈ ws, ∀ a' U, s.WarmedH U.vm → w.before a' U = true) (hcode : Cond.code y bytes maxL ret ∈ ws) (hinit : ∀ a' U, s.WarmedH U.vm → (Cond.initialized y.cls).before a' U = true) :
    vz_Back l R p e below s sargs y len W9 (PreOf R mc ms Pc) (PostOf Qc mc ms free) (vz_Post XC mc ms free) := by
  intro m meth c A g ig mk a X hg hsize hdg hW hn hp
  have h1 : (headSpec ws rm).pre.before a A.U = true := atoms_intro fun w hw => hws w hw _ _ X.warmed
  have h2 : (Cond.code y bytes maxL ret).before a A.U = true := hws _ hcode _ _ X.warmed
  have h3 : (Cond.initialized y.cls).before a A.U = true := hinit _ _ X.warmed
  have h4 : A.cells + (headSpec ws rm).room.cells ≤ R.cells := by rw [show (headSpec ws rm).room.cells = mc from hrc]; exact hp.1
  have h5 : A.slots + (headSpec ws rm).room.slots ≤ R.slots := by rw [show (headSpec ws rm).room.slots = ms from hrs]; exact hp.2.1
  have hPc : Pc a (A.U.calling g mk a) := hblind _ _ _ _ hp.2.2
  obtain ⟨U, Ls, c0, s0⟩ := A
  dsimp only [Pt.U, Pt.locs, Pt.cells, Pt.slots] at h1 h2 h3 h4 h5 X hn hPc ⊢
  obtain ⟨methY, cY, hmY, hcY, -, hlY, -, -, -, -⟩ := Cond.code_spec hn h2
  obtain ⟨kY, hkY, -⟩ := className_of_methodNamed hn
  have hinitY : kY.init = .initialized := Cond.initialized_spec (findClass_of_methodNamed hn) hkY h3
  have h : At U g.method c below := by rw [hg]; exact X.here
  have hlocals9 : W9 + (maxL + 11) + (headSpec ws rm).room.locals ≤ R.locals := hlocals
  have happ : (headSpec ws rm).appliesLoose y e.platform (U.calling g mk a) = true :=
    Spec.appliesLoose_calling (g := g) h hdg hn hkY hinitY
      (X.room_calling (g := g) (R' := (headSpec ws rm).room) hsize hmY hcY hframes (by rw [hlY]; omega) h4 h5) h1
  obtain ⟨mid, hmid⟩ := h.above
  have hfr : (U.setTop g).frames = (.java g :: mid) ++ below := by rw [State.frames_setTop' g h.top, hmid]; rfl
  obtain ⟨o, s₂, hsteps, -, hend, hq⟩ := Steps.callFree hM p X.admits X.cas X.clock (acts := []) hfr happ hPc trivial
  have hq' : vz_Q Qc XC mc ms free a (U.calling g mk a) o s₂ := hq
  rw [State.frames_setTop' g h.top] at hend
  obtain ⟨g₀, hg0⟩ := Option.isSome_iff_exists.mp h.top
  obtain ⟨r, hr⟩ := State.topJava?_eq_some.mp hg0
  have hr' : (({ U with heap := s₂.heap, slotsUsed := s₂.slotsUsed } : State).setVm s₂.vm).frames = .java g₀ :: r := hr
  rcases hq' with ⟨hqc, L, hfe, hL⟩ | ⟨q, rfl, E, ce, L, hx, hce, hcv, hcl, hW₂, hsm, hL⟩
  · obtain ⟨⟨v, rfl⟩, hW₂, e2, q2, q3, q4, q5, q6⟩ := id hfe
    have e3 : s₂ = ({ (U.calling g mk a).setFrames s₂.frames with heap := s₂.heap, slotsUsed := s₂.slotsUsed } : State).setVm s₂.vm := by
      have : s₂ = ({ s₂ with vm := (U.calling g mk a).vm } : State).setVm s₂.vm := rfl
      rw [e2] at this
      exact this
    obtain ⟨c₂, i₂, len₂, hc₂, hd₂, hf₂⟩ := hend
    have hW' : U.WarmedH s₂.vm := hW₂
    have hcc : c₂ = c := by
      have h1 : s₂.code? g.method = U.code? g.method := by
        rw [State.code?_eq, State.code?_eq, hW'.alike.method?]
      exact Option.some.inj (hc₂.symm.trans (h1.trans h.code))
    subst hcc
    have hlen : len₂ = len := by rw [hdg] at hd₂; cases hd₂; rfl
    subst hlen
    have hs₂ : s₂ = (({ U with heap := s₂.heap, slotsUsed := s₂.slotsUsed } : State).setVm s₂.vm).setTop { g with pc := g.pc + len₂, stack := v.toList ++ g.stack } := by
      refine e3.trans ?_
      rw [hf₂, State.calling_eq h.top, State.setFrames_setFrames, State.setTop_of_frames _ hr', hr]
      rfl
    have hsame : U.sameButNew ({ U with heap := s₂.heap, slotsUsed := s₂.slotsUsed } : State) L mc ms := by
      refine ⟨?_, q2, q3, q4, q5, q6⟩
      obtain ⟨t, ht, -⟩ := State.frames_cons hr
      show ({ U with heap := s₂.heap, slotsUsed := s₂.slotsUsed } : State) = { U.setFrames U.frames with heap := s₂.heap, slotsUsed := s₂.slotsUsed }
      rw [State.setFrames_self ht]
    subst hg
    refine Or.inl ⟨v, ⟨(({ U with heap := s₂.heap, slotsUsed := s₂.slotsUsed } : State).setVm s₂.vm), Ls ++ L, c0 + mc, s0 + ms⟩,
      ⟨X.admits, X.cas, X.clock, X.frames, X.room, X.hears, X.method, X.code, (X.here.setHeapUsed s₂.heap s₂.slotsUsed).setVm hW'.alike, X.tail, State.WarmedH.trans X.warmed hW', X.limits, X.bytes, X.same.trans (hsame.setVm s.vm)⟩,
      ⟨g, mk, s₂, L, rfl, rfl, hqc, rfl, hL, rfl, rfl⟩, ?_⟩
    show Steps p.tables e below _ ((({ U with heap := s₂.heap, slotsUsed := s₂.slotsUsed } : State).setVm s₂.vm).setTop { g with pc := g.pc + len₂, stack := v.toList ++ g.stack })
    rw [← hs₂]
    exact hsteps
  · obtain ⟨e2, q2, q3, q4, q5, q6⟩ := id hsm
    have e3 : s₂ = ({ (U.calling g mk a).setFrames s₂.frames with heap := s₂.heap, slotsUsed := s₂.slotsUsed } : State).setVm s₂.vm := by
      have : s₂ = ({ s₂ with vm := (U.calling g mk a).vm } : State).setVm s₂.vm := rfl
      rw [e2] at this
      exact this
    have hf₂ : s₂.frames = .throwing q :: .java g :: U.frames.tail := hend
    have hW' : U.WarmedH s₂.vm := hW₂
    have hs₂ : s₂ = ((({ U with heap := s₂.heap, slotsUsed := s₂.slotsUsed } : State).setVm s₂.vm).setTop g).pushFrame (.throwing q) := by
      refine e3.trans ?_
      rw [hf₂, State.calling_eq h.top, State.setFrames_setFrames, State.pushFrame, State.frames_setTop _ hr', State.setTop_of_frames _ hr', State.setFrames_setFrames, hr]
      rfl
    have hsame : U.sameButNew ({ U with heap := s₂.heap, slotsUsed := s₂.slotsUsed } : State) L mc ms := by
      refine ⟨?_, q2, q3, q4, q5, q6⟩
      obtain ⟨t, ht, -⟩ := State.frames_cons hr
      show ({ U with heap := s₂.heap, slotsUsed := s₂.slotsUsed } : State) = { U.setFrames U.frames with heap := s₂.heap, slotsUsed := s₂.slotsUsed }
      rw [State.setFrames_self ht]
    subst hg
    refine Or.inr ⟨q, ⟨(({ U with heap := s₂.heap, slotsUsed := s₂.slotsUsed } : State).setVm s₂.vm), Ls ++ L, c0 + mc, s0 + ms⟩,
      ⟨X.admits, X.cas, X.clock, X.frames, X.room, X.hears, X.method, X.code, (X.here.setHeapUsed s₂.heap s₂.slotsUsed).setVm hW'.alike, X.tail, State.WarmedH.trans X.warmed hW', X.limits, X.bytes, X.same.trans (hsame.setVm s.vm)⟩,
      ⟨g, mk, s₂, L, E, ce, rfl, rfl, hx, hce, hcv, hcl, rfl, hL, rfl, rfl⟩, ?_⟩
    show Steps p.tables e below _ (((({ U with heap := s₂.heap, slotsUsed := s₂.slotsUsed } : State).setVm s₂.vm).setTop g).pushFrame (.throwing q))
    rw [← hs₂]
    exact hsteps
end
section
variable {p : Program} {l : Launch} {e : Env} {R : Room} {s : State} {m : MethodId} {args : Array Value} {below : List Frame} {meth : Method} {c : Code} {T : State} {locs : List Loc} {cells slots : Nat}
theorem vz_callV (X : Stand p l e R s m args below meth c T locs cells slots) (hexec : p.tables.exec = Jvm.exec) {own C : String} {index : Nat} {y : MethodName} {bytes : ByteArray} {maxL : Nat} {ret : Option FieldType}
    (hown : s.vm.findClass own = some m.cls) (hlink : (Cond.methodLink own index y).before args s = true) (hinst : (Cond.instanceMethod y).before args s = true) (hsel : (Cond.selects C y y).before args s = true)
    (hcode : (Cond.code y bytes maxL ret).before args s = true) (hy : y.cls ≠ "java/lang/invoke/MethodHandle" ∧ y.cls ≠ "java/lang/invoke/VarHandle")
    {W9 : Nat} {Pre : Pt → Array Value → Prop} {Post : Pt → Array Value → Option Value → Pt → Prop} {PostX : Pt → Array Value → Addr → Pt → Prop} (hK : vz_Back l R p e below s args y 3 W9 Pre Post PostX)
    {b : Addr} {cellB : Cell} (hcell : T.heap[b]? = some cellB) (hobj : cellB.vm.isStatics = false) (hcls : s.vm.findClass C = some cellB.cls)
    {g : JFrame} (hg : g.method = m) (hsize : g.locals.size = c.maxLocals) {argsL rest : List Value} (hlen : ∀ sig, parseMethodDescriptor y.desc = some sig → argsL.length = sig.parameters.length)
    (hstack : g.stack = argsL.reverse ++ .ref b :: rest) (hW : 2 * g.monitorRoom + (rest.map fun v => v.category).sum ≤ W9) (hdg : decode c.code g.pc = .ok (.invokevirtual index, 3))
    (hpre : ∀ vm₁, s.WarmedH vm₁ → Pre ⟨T.setVm vm₁, locs, cells, slots⟩ (Value.ref b :: argsL).toArray) :
    (∃ (v : Option Value) (vm₁ : Vm) (B : Pt), s.WarmedH vm₁ ∧ Stand p l e R s m args below meth c B.U B.locs B.cells B.slots ∧ Post ⟨T.setVm vm₁, locs, cells, slots⟩ (Value.ref b :: argsL).toArray v B ∧
      ∀ target, Steps p.tables e below (B.U.setTop { g with pc := g.pc + 3, stack := v.toList ++ rest }) target → Steps p.tables e below (T.setTop g) target) ∨
    (∃ (q : Addr) (vm₁ : Vm) (B : Pt), s.WarmedH vm₁ ∧ Stand p l e R s m args below meth c B.U B.locs B.cells B.slots ∧ PostX ⟨T.setVm vm₁, locs, cells, slots⟩ (Value.ref b :: argsL).toArray q B ∧
      Steps p.tables e below (T.setTop g) ((B.U.setTop { g with stack := rest }).pushFrame (.throwing q))) := by
  obtain ⟨mk, methM, hnamed, hmethM, hstM, habM⟩ := Cond.instanceMethod_spec hinst
  obtain ⟨methM', cM, hmethM', -, -, -, -, -, -, hsigM⟩ := Cond.code_spec hnamed hcode
  cases hmethM.symm.trans hmethM'
  obtain ⟨c2, r2, m2, q1, q2, q3, q4, kP, hkP, hkPi⟩ := Cond.selects_spec hsel
  cases hcls.symm.trans q1
  cases (State.methodFound?_of_named hnamed hy).symm.trans q2
  cases hnamed.symm.trans q3
  have hselP : selectMethod e.platform s.vm cellB.cls mk = .method mk := by rw [Launch.admits_selectMethod X.admits]; exact q4
  obtain ⟨vm₁, X₁, hstep₁⟩ := X.invokevirtual hexec hown hlink hnamed hmethM hstM hkP hkPi hy (a := b) (cell := cellB) hcell
    (fun z h => by rw [h] at hobj; cases hobj) hselP hmethM habM hkP hkPi (g := g) hg (argsL := argsL) (rest := rest) (hlen _ hsigM) hstack hdg
  rcases hK m meth c ⟨T.setVm vm₁, locs, cells, slots⟩ { g with stack := rest } (.invokevirtual index) mk (Value.ref b :: argsL).toArray X₁ hg hsize hdg hW (X₁.named hnamed) (hpre vm₁ X₁.warmed) with ⟨v, B, X', hpost, hsteps⟩ | ⟨q, B, X', hpost, hsteps⟩
  · exact Or.inl ⟨v, vm₁, B, X₁.warmed, X', hpost, fun target h => hstep₁ _ fun acts => by rw [doInvoke_state]; exact hsteps.trans h⟩
  · exact Or.inr ⟨q, vm₁, B, X₁.warmed, X', hpost, hstep₁ _ fun acts => by rw [doInvoke_state]; exact hsteps⟩
end
section
theorem vz_cls {s : State} {T : State} {vm₁ : Vm} {E : String} {k : ClassId} (hW : s.WarmedH vm₁) (h : (T.setVm vm₁).vm.findClass E = some k) : s.vm.findClass E = some k := by
  have h1 : vm₁.findClass E = some k := h
  rw [hW.alike.findClass] at h1
  exact h1
end
section
def vz_W (p : Program) (l : Launch) (e : Env) (R : Room) (s : State) (m : MethodId) (args : Array Value) (below : List Frame) (meth : Method) (c : Code) (H : Heap) (locs : List Loc) (cells slots : Nat) (Q : State → Prop) (g : JFrame) (q : Addr) : Prop :=
  ∀ T : State, T.heap = H → Stand p l e R s m args below meth c T locs cells slots → ∃ t, Steps p.tables e below ((T.setTop g).pushFrame (.throwing q)) t ∧ Q t
end
section
def vz_Run (p : Program) (l : Launch) (e : Env) (R : Room) (s : State) (m : MethodId) (args : Array Value) (below : List Frame) (meth : Method) (c : Code) (H : Heap) (locs : List Loc) (cells slots mc ms : Nat) (g : JFrame) (rest : List Value) (Qa : State → Outcome → State → Prop) (XC : String → Addr → State → State → Prop) (free : Addr → Prop) : Prop :=
  ∀ T : State, T.heap = H → Stand p l e R s m args below meth c T locs cells slots →
    (∃ (v : Option Value) (st₀ t T' : State) (L : List Loc), st₀.heap = H ∧ Stand p l e R s m args below meth c T' (locs ++ L) (cells + mc) (slots + ms) ∧ (∀ q ∈ L, free q.base) ∧ T'.heap = t.heap ∧ T'.vm = t.vm ∧ Qa st₀ (.returned v) t ∧
      Goes p e below T g T' { g with pc := g.pc + 3, stack := v.toList ++ rest }) ∨
    (∃ (q : Addr) (st₀ t T' : State) (L : List Loc) (E : String) (ce : Cell), st₀.heap = H ∧ Stand p l e R s m args below meth c T' (locs ++ L) (cells + mc) (slots + ms) ∧ (∀ z ∈ L, free z.base) ∧ T'.heap = t.heap ∧ T'.vm = t.vm ∧ XC E q st₀ t ∧ t.heap[q]? = some ce ∧ ce.vm = .none ∧ s.vm.findClass E = some ce.cls ∧
      Steps p.tables e below (T.setTop g) ((T'.setTop { g with stack := rest }).pushFrame (.throwing q)))
end
section
variable {p : Program} {l : Launch} {e : Env} {R : Room} {s : State} {m : MethodId} {args : Array Value} {below : List Frame} {meth : Method} {c : Code} {H : Heap} {locs : List Loc} {cells slots : Nat}
variable {y : MethodName} {bytes cc : ByteArray} {maxL nL mc ms n index : Nat} {ret : Option FieldType} {ws : List Cond} {rm : Room} {Pc : Array Value → State → Prop} {Qc : Array Value → State → Outcome → State → Prop} {XC : String → Addr → State → State → Prop} {free : Addr → Prop} {Ts : List Cond} {own C : String} {b : Addr} {As rest : List Value} {g : JFrame}
theorem vz_callBack (cb : CallB R s args own index y bytes maxL ret ws rm mc ms n) (hM : vz_Met l y ws rm Pc Qc XC mc ms free) (hbl : FrameBlind Pc) : vz_Back l R p e below s args y 3 8 (PreOf R mc ms Pc) (PostOf Qc mc ms free) (vz_Post XC mc ms free) := by
  obtain ⟨hrc, hrs, hfr, hlo, hws, hcw, -, hini, -⟩ := cb
  exact vz_back (bytes := bytes) (maxL := maxL) (ret := ret) hM hbl hrc hrs hfr hlo hws hcw (fun a' U hW => word_at hW (Or.inl (by first | rfl | simp [Cond.onTables, Cond.keeps, Cond.steady])) hini)
end
section
variable {p : Program} {l : Launch} {e : Env} {R : Room} {s : State} {m : MethodId} {args : Array Value} {below : List Frame} {meth : Method} {c : Code} {H : Heap} {locs : List Loc} {cells slots : Nat}
variable {y : MethodName} {bytes cc : ByteArray} {maxL nL mc ms n index : Nat} {ret : Option FieldType} {ws : List Cond} {rm : Room} {Pc : Array Value → State → Prop} {Qc : Array Value → State → Outcome → State → Prop} {XC : String → Addr → State → State → Prop} {free : Addr → Prop} {Ts : List Cond} {own C : String} {b : Addr} {As rest : List Value} {g : JFrame}
theorem vz_runV (S : CallFix p m c cc nL s args Ts own) (hM : vz_Met l y ws rm Pc Qc XC mc ms free) (cw : CallW R s args own C index y bytes maxL ret ws rm mc ms n) (hp : PreV s H C b Pc As)
    (hg : g.method = m) (hn : As.length = n) (hsize : g.locals.size = nL) (hstack : g.stack = As.reverse ++ .ref b :: rest) (hW : 2 * g.monitorRoom + (rest.map fun v => v.category).sum ≤ 8) (hdg : decode cc g.pc = .ok (.invokevirtual index, 3)) (hf : cells + mc ≤ R.cells ∧ slots + ms ≤ R.slots) :
    vz_Run p l e R s m args below meth c H locs cells slots mc ms g rest (Qc (Value.ref b :: As).toArray) XC free := by
  have hK : vz_Back l R p e below s args y 3 8 (PreOf R mc ms Pc) (PostOf Qc mc ms free) (vz_Post XC mc ms free) := vz_callBack cw.1 hM hp.1
  obtain ⟨⟨-, -, -, -, -, -, hcode, -, hy, hlen, hl⟩, hin, hse⟩ := cw
  obtain ⟨hx, hb, hml, ho, -⟩ := S
  obtain ⟨-, ⟨cellB, hcB, hoB, hclB⟩, hPc⟩ := hp
  intro T hT X
  rcases vz_callV X hx (C := C) (bytes := bytes) (maxL := maxL) (ret := ret) ho hl hin hse hcode hy hK (by rw [hT]; exact hcB) hoB hclB hg (hsize.trans hml.symm) (argsL := As) (rest := rest) (fun sig h => hn.trans (hlen sig h)) hstack hW (by rw [hb]; exact hdg)
    (fun vm₁ hW₁ => ⟨hf.1, hf.2, hPc (T.setVm vm₁) hT hW₁⟩) with ⟨v, vm₁, ⟨U', l2, c2, s2⟩, hW₁, X', ⟨g', mk, t, L, e1, e2, hq, h1, hL, h2, h3⟩, st⟩ | ⟨q, vm₁, ⟨U', l2, c2, s2⟩, hW₁, X', ⟨g', mk, t, L, E, ce, e1, e2, hq, hce, hcv, hcl, h1, hL, h2, h3⟩, st⟩
  · dsimp only [Pt.U, Pt.locs, Pt.cells, Pt.slots] at X' e1 e2 h1 h2 h3 st
    subst h1; subst h2; subst h3
    exact Or.inl ⟨v, (T.setVm vm₁).calling g' mk (Value.ref b :: As).toArray, t, U', L, hT, X', hL, e1, e2, hq, st⟩
  · dsimp only [Pt.U, Pt.locs, Pt.cells, Pt.slots] at X' e1 e2 h1 h2 h3 st hcl
    subst h1; subst h2; subst h3
    exact Or.inr ⟨q, (T.setVm vm₁).calling g' mk (Value.ref b :: As).toArray, t, U', L, E, ce, hT, X', hL, e1, e2, hq, hce, hcv, vz_cls hW₁ hcl, st⟩
end
section
variable {p : Program} {l : Launch} {e : Env} {R : Room} {s : State} {m : MethodId} {args : Array Value} {below : List Frame} {meth : Method} {c : Code} {H : Heap} {locs : List Loc} {cells slots : Nat} {Q : State → Prop}
variable {mc ms : Nat} {free : Addr → Prop} {A0 A1 : Nat → Prop} {H0 : Heap} {a : Array Value} {pc : Nat} {ls : Array Slot} {st0 rest : List Value}
theorem vz_keep {st₀ t T' : State} {L : List Loc} (h0 : st₀.heap = H) (e1 : T'.heap = t.heap) (hS : va_S A0 H0 H locs) (hA : ∀ q, q < H.size → A1 q → A0 q) (hf : ∀ q, free q → A0 q) (hL : ∀ q ∈ L, free q.base) (hF : va_F A1 st₀ t) :
    H.size ≤ T'.heap.size ∧ (∀ q : Nat, q < H.size → ¬ A1 q → T'.heap[q]? = H[q]?) ∧ va_S A0 H0 T'.heap (locs ++ L) := by
  obtain ⟨hz, hk⟩ := hF
  rw [h0] at hz hk
  exact ⟨by rw [e1]; exact hz, fun q h1 h2 => by rw [e1]; exact hk q h1 h2,
    ⟨Nat.le_trans hS.1 (by rw [e1]; exact hz), fun q h1 h2 => by rw [e1, hk q (Nat.lt_of_lt_of_le h1 hS.1) (fun z => h2 (hA q (Nat.lt_of_lt_of_le h1 hS.1) z))]; exact hS.2.1 q h1 h2, fun q hq => by
      rcases List.mem_append.mp hq with h | h
      · exact hS.2.2 q h
      · exact hf _ (hL q h)⟩⟩
end
section
variable {p : Program} {l : Launch} {e : Env} {R : Room} {s : State} {m : MethodId} {args : Array Value} {below : List Frame} {meth : Method} {c : Code} {H : Heap} {locs : List Loc} {cells slots : Nat} {Q : State → Prop}
variable {mc ms : Nat} {free : Addr → Prop} {A0 A1 : Nat → Prop} {H0 : Heap} {a : Array Value} {pc : Nat} {ls : Array Slot} {st0 rest : List Value}
theorem vz_catch {own name : String} {E : String} {ce : Cell} {q : Addr} (hown : s.vm.findClass own = some m.cls) (pre : List ExceptionTableEntry) (x : ExceptionTableEntry) (suf : List ExceptionTableEntry) (hsplit : c.exceptionTable.toList = pre ++ x :: suf)
    (hpass : ∀ z ∈ pre, covers z pc = false ∨ (z.catchType ≠ 0 ∧ ∃ nm : String, (Cond.classLink own z.catchType nm).before args s = true ∧ va_Nc E nm s)) (hx : covers x pc = true) (h0 : x.catchType ≠ 0)
    (hlink : (Cond.classLink own x.catchType name).before args s = true) (hcast : (Cond.castable E name).before args s = true) (hcell : H[q]? = some ce) (hv : ce.vm = .none) (hcl : s.vm.findClass E = some ce.cls)
    (kk : W p l e R s m args below meth c H locs cells slots Q (F0 m x.handlerPc ls [.ref q])) : vz_W p l e R s m args below meth c H locs cells slots Q (F0 m pc ls rest) q := by
  intro T hT X
  have hpl : e.platform.magicAccessors = ({} : Platform).magicAccessors := by rw [X.admits.platform]
  obtain ⟨c3, c4, hc3, hc4, hasg⟩ := Cond.castable_spec hcast
  cases Option.some.inj (hc3.symm.trans hcl)
  obtain ⟨c5, hc5, hcl5⟩ := Cond.classLink_spec hown hlink e.platform hpl
  cases Option.some.inj (hc4.symm.trans hc5)
  obtain ⟨vm', X', st⟩ := X.thenCaughtThrough q (g := F0 m pc ls rest) rfl (Steps.refl _) (by rw [hT]; exact hcell) (by rw [hv]; rfl) (by obtain ⟨k9, h9, -⟩ := Vm.findClass_spec hcl; exact ⟨k9, h9⟩) pre x suf hsplit
    (fun z hz => by
      rcases hpass z hz with h | ⟨hz0, nm, hl1, hn1⟩
      · exact Or.inl h
      · obtain ⟨c6, hc6, hcl6⟩ := Cond.classLink_spec hown hl1 e.platform hpl
        obtain ⟨a8, b8, h1, h2, h3⟩ := hn1
        cases Option.some.inj (h1.symm.trans hcl)
        cases Option.some.inj (h2.symm.trans hc6)
        exact Or.inr ⟨hz0, _, hcl6, h3⟩) hx (Or.inr ⟨h0, c4, hcl5, hasg⟩)
  obtain ⟨t, a1, b1⟩ := kk (T.setVm vm') hT X'
  exact ⟨t, st.trans a1, b1⟩
end
section
variable {p : Program} {l : Launch} {e : Env} {R : Room} {s : State} {m : MethodId} {args : Array Value} {below : List Frame} {meth : Method} {c : Code} {H : Heap} {locs : List Loc} {cells slots : Nat} {Q : State → Prop}
variable {mc ms : Nat} {free : Addr → Prop} {A0 A1 : Nat → Prop} {H0 : Heap} {a : Array Value} {ls : Array Slot} {st0 rest : List Value}
variable {Qc : Array Value → State → Outcome → State → Prop} {XC : String → Addr → State → State → Prop}
def vz_MQ (below : List Frame) (Qc : Array Value → State → Outcome → State → Prop) (XC : String → Addr → State → State → Prop) (a : Array Value) (s : State) (mc ms : Nat) (free : Addr → Prop) : State → Prop := fun t =>
  ∃ o, t.status = .running ∧ Ended t below o ∧ vz_Q Qc XC mc ms free a s o t
end
section
variable {p : Program} {l : Launch} {e : Env} {R : Room} {s : State} {m : MethodId} {args : Array Value} {below : List Frame} {meth : Method} {c : Code} {H : Heap} {locs : List Loc} {cells slots : Nat} {Q : State → Prop}
variable {mc ms : Nat} {free : Addr → Prop} {A0 A1 : Nat → Prop} {H0 : Heap} {a : Array Value} {ls : Array Slot} {st0 rest : List Value}
variable {Qc : Array Value → State → Outcome → State → Prop} {XC : String → Addr → State → State → Prop}
theorem vz_ret {g : JFrame} {mc ms : Nat} (k : W p l e R s m args below meth c H locs cells slots (MQ below Qc args s mc ms free) g) : W p l e R s m args below meth c H locs cells slots (vz_MQ below Qc XC args s mc ms free) g := by
  intro T hT X
  obtain ⟨t, a1, o, b1, b2, b3, b4⟩ := k T hT X
  exact ⟨t, a1, o, b1, b2, Or.inl ⟨b3, b4⟩⟩
end
section
variable {p : Program} {l : Launch} {e : Env} {R : Room} {s : State} {m : MethodId} {args : Array Value} {below : List Frame} {meth : Method} {c : Code} {H : Heap} {locs : List Loc} {cells slots : Nat} {Q : State → Prop}
variable {mc ms : Nat} {free : Addr → Prop} {A0 A1 : Nat → Prop} {H0 : Heap} {a : Array Value} {ls : Array Slot} {st0 rest : List Value}
variable {Qc : Array Value → State → Outcome → State → Prop} {XC : String → Addr → State → State → Prop}
theorem vz_out {pc : Nat} {E : String} {ce : Cell} {q : Addr} {mc ms : Nat} (hout : ∀ x ∈ c.exceptionTable.toList, covers x pc = false) (hlocks : meth.locks = false) (hcell : H[q]? = some ce) (hv : ce.vm = .none) (hcl : s.vm.findClass E = some ce.cls)
    (hx : ∀ t : State, t.heap = H → s.vm.Alike t.vm → XC E q s t) (hf : ∀ z ∈ locs, free z.base) (hc : cells ≤ mc) (hs : slots ≤ ms) :
    vz_W p l e R s m args below meth c H locs cells slots (vz_MQ below Qc XC args s mc ms free) (F0 m pc ls rest) q := by
  intro T hT X
  obtain ⟨st1, hrun, hend, hW, hsm⟩ := X.leaveThrown q (g := F0 m pc ls rest) rfl rfl rfl hout hlocks
  have hcell9 : (T.setFrames (.throwing q :: below)).heap[q]? = some ce := by
    show T.heap[q]? = some ce
    rw [hT]; exact hcell
  exact ⟨_, st1, .threw q, hrun, hend, Or.inr ⟨q, rfl, E, ce, locs, hx _ hT hW.alike, hcell9, hv, hcl, hW, hsm.mono hc hs, hf⟩⟩
end
section
variable {l : Launch}
theorem vz_ofW {y : MethodName} {ws ws' : List Cond} {rm : Room} {Pc : Array Value → State → Prop} {Qc : Array Value → State → Outcome → State → Prop} {XC : String → Addr → State → State → Prop} {mc ms : Nat} {free : Addr → Prop} {cc : ByteArray} {maxL : Nat} {ret : Option FieldType}
    (hy : plainName y.cls = true) (hw : ws = Cond.code y cc maxL ret :: ws')
    (body : ∀ p e s m args below meth c s₁, BodyLoose p l y (headSpec ws rm) cc maxL ret e s m args below meth c s₁ → c.maxLocals = maxL → (∀ x ∈ c.exceptionTable.toList, False) → Pc args s →
      W p l e (headSpec ws rm).room s m args below meth c s.heap [] 0 0 (vz_MQ below Qc XC args s mc ms free) (entryFrame m args maxL)) : vz_Met l y ws rm Pc Qc XC mc ms free := by
  refine MetFree.of_bodyS (code := cc) (maxLocals := maxL) (ret := ret) hy ?_ ?_
  · intro args s m h hn
    obtain ⟨meth, c, h1, h2, h3, h4, h5, h6, -, -⟩ := Cond.code_spec hn (atoms_spec (ws := ws) h _ (by rw [hw]; exact List.mem_cons_self))
    exact ⟨meth, c, h1, h2, h3, h4, h5, h6⟩
  · intro p e s m args below meth c s₁ B hml hP _
    have hh0 : s₁.heap = s.heap := by rw [B.state]; rfl
    have ht : ∀ x ∈ c.exceptionTable.toList, False := by
      obtain ⟨meth9, c9, h1, h2, -, -, -, -, h7, -⟩ := Cond.code_spec B.named (atoms_spec (ws := ws) B.pre _ (by rw [hw]; exact List.mem_cons_self))
      cases Option.some.inj (h1.symm.trans B.method)
      cases Option.some.inj (h2.symm.trans (Stand.of_body B).code)
      intro x hx
      rw [Array.isEmpty_iff.mp h7] at hx
      cases hx
    obtain ⟨t, a1, o, b1, b2, b3⟩ := body p e s m args below meth c s₁ B hml ht hP s₁ hh0 (Stand.of_body B)
    exact ⟨t, o, a1, b1, b2, b3⟩
end
section
variable {p : Program} {l : Launch} {e : Env} {R : Room} {s : State} {m : MethodId} {args : Array Value} {below : List Frame} {meth : Method} {c : Code} {H : Heap} {locs : List Loc} {cells slots : Nat} {Q : State → Prop}
variable {ls : Array Slot} {rest : List Value} {D : va_G} {cl : List vw_C} {tys : List (ClassId × FieldType)} {ws : va_W}
theorem vz_athrow {cc : ByteArray} {pc : Nat} (hexec : p.tables.exec = Jvm.exec) (hb : c.code = cc) {q : Addr} (hdg : decode cc pc = .ok (.athrow, 1)) (k : vz_W p l e R s m args below meth c H locs cells slots Q (F0 m pc ls rest) q) : W p l e R s m args below meth c H locs cells slots Q (F0 m pc ls (.ref q :: rest)) := by
  intro T hT X
  obtain ⟨t, st, hq⟩ := k T hT X
  refine ⟨t, ?_, hq⟩
  have hdg' : decode c.code pc = .ok (.athrow, 1) := by rw [hb]; exact hdg
  jvm_step X.here [X.here.top, hexec, hdg', athrow.wp_sem]
  exact st
end
section
variable {p : Program} {l : Launch} {e : Env} {R : Room} {s : State} {m : MethodId} {args : Array Value} {below : List Frame} {meth : Method} {c : Code} {T : State} {H : Heap} {locs : List Loc} {cells slots : Nat}
theorem vz_callVW (X : Stand p l e R s m args below meth c T locs cells slots) (hexec : p.tables.exec = Jvm.exec) {own C : String} {index : Nat} {y : MethodName} {bytes : ByteArray} {maxL : Nat} {ret : Option FieldType} {hh : List (Nat × Nat × Nat × Nat)}
    (hown : s.vm.findClass own = some m.cls) (hlink : (Cond.methodLink own index y).before args s = true) (hinst : (Cond.instanceMethod y).before args s = true) (hsel : (Cond.selects C y y).before args s = true)
    (hcode : (Cond.codeWith y bytes maxL ret hh).before args s = true) (hy : y.cls ≠ "java/lang/invoke/MethodHandle" ∧ y.cls ≠ "java/lang/invoke/VarHandle")
    {W9 : Nat} {Pre : Pt → Array Value → Prop} {Post : Pt → Array Value → Option Value → Pt → Prop} (hK : Back l R p e below s args y 3 W9 Pre Post)
    {b : Addr} {cellB : Cell} (hcell : T.heap[b]? = some cellB) (hobj : cellB.vm.isStatics = false) (hcls : s.vm.findClass C = some cellB.cls)
    {g : JFrame} (hg : g.method = m) (hsize : g.locals.size = c.maxLocals) {argsL rest : List Value} (hlen : ∀ sig, parseMethodDescriptor y.desc = some sig → argsL.length = sig.parameters.length)
    (hstack : g.stack = argsL.reverse ++ .ref b :: rest) (hW : 2 * g.monitorRoom + (rest.map fun v => v.category).sum ≤ W9) (hdg : decode c.code g.pc = .ok (.invokevirtual index, 3))
    (hpre : ∀ vm₁, s.WarmedH vm₁ → Pre ⟨T.setVm vm₁, locs, cells, slots⟩ (Value.ref b :: argsL).toArray) :
    ∃ (v : Option Value) (vm₁ : Vm) (B : Pt), s.WarmedH vm₁ ∧ Stand p l e R s m args below meth c B.U B.locs B.cells B.slots ∧ Post ⟨T.setVm vm₁, locs, cells, slots⟩ (Value.ref b :: argsL).toArray v B ∧
      ∀ target, Steps p.tables e below (B.U.setTop { g with pc := g.pc + 3, stack := v.toList ++ rest }) target → Steps p.tables e below (T.setTop g) target := by
  obtain ⟨mk, methM, hnamed, hmethM, hstM, habM⟩ := Cond.instanceMethod_spec hinst
  obtain ⟨m8, methM', cM, hn8, hmethM', -, -, -, -, -, -, hsigM⟩ := Cond.codeWith_spec hcode
  cases Option.some.inj (hn8.symm.trans hnamed)
  cases hmethM.symm.trans hmethM'
  obtain ⟨c2, r2, m2, q1, q2, q3, q4, kP, hkP, hkPi⟩ := Cond.selects_spec hsel
  cases hcls.symm.trans q1
  cases (State.methodFound?_of_named hnamed hy).symm.trans q2
  cases hnamed.symm.trans q3
  have hselP : selectMethod e.platform s.vm cellB.cls mk = .method mk := by rw [Launch.admits_selectMethod X.admits]; exact q4
  obtain ⟨vm₁, X₁, hstep₁⟩ := X.invokevirtual hexec hown hlink hnamed hmethM hstM hkP hkPi hy (a := b) (cell := cellB) hcell
    (fun z h => by rw [h] at hobj; cases hobj) hselP hmethM habM hkP hkPi (g := g) hg (argsL := argsL) (rest := rest) (hlen _ hsigM) hstack hdg
  obtain ⟨v, B, X', hpost, hsteps⟩ := hK m meth c ⟨T.setVm vm₁, locs, cells, slots⟩ { g with stack := rest } (.invokevirtual index) mk (Value.ref b :: argsL).toArray X₁ hg hsize hdg hW (X₁.named hnamed) (hpre vm₁ X₁.warmed)
  exact ⟨v, vm₁, B, X₁.warmed, X', hpost, fun target h => hstep₁ _ fun acts => by rw [doInvoke_state]; exact hsteps.trans h⟩
end
section
variable {p : Program} {l : Launch} {e : Env} {R : Room} {s : State} {m : MethodId} {args : Array Value} {below : List Frame} {meth : Method} {c : Code} {T : State} {H : Heap} {locs : List Loc} {cells slots : Nat}
abbrev vz_CVW (R : Room) (s : State) (args : Array Value) (own C : String) (index : Nat) (y : MethodName) (bytes : ByteArray) (maxL : Nat) (ret : Option FieldType) (hh : List (Nat × Nat × Nat × Nat)) (ws : List Cond) (rm : Room) (mc ms n : Nat) : Prop :=
  (rm.cells = mc ∧ rm.slots = ms ∧ rm.frames + 1 ≤ R.frames ∧ 8 + (maxL + 11) + rm.locals ≤ R.locals ∧ (∀ w ∈ ws, ∀ (a' : Array Value) (U : State), s.WarmedH U.vm → w.before a' U = true) ∧ Cond.codeWith y bytes maxL ret hh ∈ ws) ∧
  (Cond.codeWith y bytes maxL ret hh).before args s = true ∧ (Cond.initialized y.cls).before args s = true ∧ (y.cls ≠ "java/lang/invoke/MethodHandle" ∧ y.cls ≠ "java/lang/invoke/VarHandle") ∧
  (∀ sig, parseMethodDescriptor y.desc = some sig → n = sig.parameters.length) ∧ (Cond.methodLink own index y).before args s = true ∧ (Cond.instanceMethod y).before args s = true ∧ (Cond.selects C y y).before args s = true
end
section
variable {p : Program} {l : Launch} {e : Env} {R : Room} {s : State} {m : MethodId} {args : Array Value} {below : List Frame} {meth : Method} {c : Code} {T : State} {H : Heap} {locs : List Loc} {cells slots : Nat}
theorem vz_cwVW {own C : String} {index maxL mc ms : Nat} {y : MethodName} {bytes : ByteArray} {ret : Option FieldType} {hh : List (Nat × Nat × Nat × Nat)} {Ts ws ws' : List Cond} {rm : Room} (n : Nat) (ht : ∀ w ∈ Ts, w.before args s = true) (hT : GoodIn Ts (wsV own index C y ws)) (hw : ws = Cond.codeWith y bytes maxL ret hh :: ws') (hrc : rm.cells = mc) (hrs : rm.slots = ms)
    (hd : y.cls = C ∧ y.cls ≠ "java/lang/invoke/MethodHandle" ∧ y.cls ≠ "java/lang/invoke/VarHandle" ∧ (parseMethodDescriptor y.desc).map (fun d => d.parameters.length) = some n) (hR : rm.frames + 1 ≤ R.frames ∧ 8 + (maxL + 11) + rm.locals ≤ R.locals) :
    vz_CVW R s args own C index y bytes maxL ret hh ws rm mc ms n := by
  obtain ⟨hC, hd⟩ := hd
  subst hC
  have ok : ∀ w ∈ wsV own index y.cls y ws, w.before args s = true := fun w h => ht w (hT w h).1
  have hG : GoodIn Ts ws := fun w h => hT w (by unfold wsV; exact List.mem_append_right _ h)
  have hc : Cond.codeWith y bytes maxL ret hh ∈ ws := by rw [hw]; exact List.mem_cons_self
  refine ⟨⟨hrc, hrs, hR.1, hR.2, pay_in ht hG, hc⟩, ht _ (hG _ hc).1, ok _ (by simp [wsV]), ⟨hd.1, hd.2.1⟩, fun sig h => ?_, ok _ (by simp [wsV]), ok _ (by simp [wsV]), ok _ (by simp [wsV])⟩
  have h2 := hd.2.2
  rw [h] at h2
  exact (Option.some.inj h2).symm
end
section
variable {p : Program} {l : Launch} {e : Env} {R : Room} {s : State} {m : MethodId} {args : Array Value} {below : List Frame} {meth : Method} {c : Code} {T : State} {H : Heap} {locs : List Loc} {cells slots : Nat}
theorem vz_runVW {y : MethodName} {bytes cc : ByteArray} {maxL nL mc ms n index : Nat} {ret : Option FieldType} {hh : List (Nat × Nat × Nat × Nat)} {ws : List Cond} {rm : Room} {Pc : Array Value → State → Prop} {Qc : Array Value → State → Outcome → State → Prop} {free : Addr → Prop} {Ts : List Cond} {own C : String} {b : Addr} {As rest : List Value} {g : JFrame}
    (S : CallFix p m c cc nL s args Ts own) (hM : Met l y ws rm Pc Qc mc ms free) (cw : vz_CVW R s args own C index y bytes maxL ret hh ws rm mc ms n) (hp : PreV s H C b Pc As)
    (hg : g.method = m) (hn : As.length = n) (hsize : g.locals.size = nL) (hstack : g.stack = As.reverse ++ .ref b :: rest) (hW : 2 * g.monitorRoom + (rest.map fun v => v.category).sum ≤ 8) (hdg : decode cc g.pc = .ok (.invokevirtual index, 3)) (hf : cells + mc ≤ R.cells ∧ slots + ms ≤ R.slots) :
    va_Run p l e R s m args below meth c H locs cells slots mc ms g rest (Qc (Value.ref b :: As).toArray) free := by
  obtain ⟨⟨hrc, hrs, hfr, hlo, hws, hcw⟩, hcode, hini, hy, hlen, hl, hin, hse⟩ := cw
  have hK : Back l R p e below s args y 3 8 (PreOf R mc ms Pc) (PostOf Qc mc ms free) := va_backW (hh := hh) (bytes := bytes) (maxL := maxL) (ret := ret) hM hp.1 hrc hrs hfr hlo hws hcw (fun a' U hW => word_at hW (Or.inl (by first | rfl | simp [Cond.onTables, Cond.keeps, Cond.steady])) hini)
  obtain ⟨hx, hb, hml, ho, -⟩ := S
  obtain ⟨-, ⟨cellB, hcB, hoB, hclB⟩, hPc⟩ := hp
  intro T hT X
  obtain ⟨v, vm₁, ⟨U', l2, c2, s2⟩, hW₁, X', ⟨g', mk, t, L, e1, e2, hq, h1, hL, h2, h3⟩, st⟩ := vz_callVW X hx (C := C) (hh := hh) (bytes := bytes) (maxL := maxL) (ret := ret) ho hl hin hse hcode hy hK (by rw [hT]; exact hcB) hoB hclB hg (hsize.trans hml.symm) (argsL := As) (rest := rest) (fun sig h => hn.trans (hlen sig h)) hstack hW (by rw [hb]; exact hdg)
    (fun vm₁ hW₁ => ⟨hf.1, hf.2, hPc (T.setVm vm₁) hT hW₁⟩)
  dsimp only [Pt.U, Pt.locs, Pt.cells, Pt.slots] at X' e1 e2 h1 h2 h3 st
  subst h1; subst h2; subst h3
  exact ⟨v, (T.setVm vm₁).calling g' mk (Value.ref b :: As).toArray, t, U', L, hT, X', hL, e1, e2, hq, st⟩
end
section
variable {l : Launch}
theorem vz_table {p : Program} {x y : MethodName} {S : Spec} {cc bytes : ByteArray} {maxL maxL' : Nat} {ret ret' : Option FieldType} {e : Env} {s s₁ : State} {m : MethodId} {args : Array Value} {below : List Frame} {meth : Method} {c : Code} {hh : List (Nat × Nat × Nat × Nat)}
    (B : BodyLoose p l y S cc maxL ret e s m args below meth c s₁) (h : (Cond.codeWith y bytes maxL' ret' hh).before args s = true) : c.exceptionTable.toList = tableOf hh := by
  obtain ⟨m9, meth9, c9, hn9, h1, h2, -, -, h6, -⟩ := Cond.codeWith_spec h
  cases Option.some.inj (hn9.symm.trans B.named)
  cases Option.some.inj (h1.symm.trans B.method)
  cases Option.some.inj (h2.symm.trans (Stand.of_body B).code)
  rw [← h6, table_eq]
end
end VZ
/-! ===== throwing methods ===== -/
def zPoT {β : Type} (K : zK) (rv : β → Option Value) (r : β ⊕ Nat) (u' : zM) : Array Value → State → Outcome → State → Prop := match r with
  | .inl b => zPo K rv b u'
  | .inr _ => fun _ _ _ _ => False
def zXC {β : Type} (K : zK) (r : β ⊕ Nat) (u' : zM) : String → Addr → State → State → Prop := match r with
  | .inl _ => fun _ _ _ _ => False
  | .inr n => fun E q st t => E = "WheelLand$Fault" ∧ q = ad K u' n ∧ Cz K t u' t.heap ∧ va_F (zA K) st t
def zQT {β : Type} (rv : β → Option Value) : zQf (β ⊕ Nat) := fun K below args s mc ms r u' => vz_MQ below (zPoT K rv r u') (zXC K r u') args s mc ms (zA K)
def obX {β : Type} (ob : β → zM → Prop) : β ⊕ Nat → zM → Prop := fun r u => match r with
  | .inl b => ob b u
  | .inr n => al u n ∧ kd n = 11
/-- the contract of a method that may throw a Fault -/
def zMetT {β : Type} (y : MethodName) (code : ByteArray) (nL : Nat) (ret : Option FieldType) (fr lo : Nat) (rv : β → Option Value) (ob : β → zM → Prop) (vs : List Value) (F : zM → Option ((β ⊕ Nat) × zM)) : Prop :=
  ∀ (u : zM) (r : β ⊕ Nat) (u' : zM), F u = some (r, u') → zWf u → okS u vs → (zWf u' ∧ zEx u u' ∧ obX ob r u') ∧
    ∀ (K : zK) (l : Launch), vz_Met l y (ws_ y code nL ret) { frames := fr, cells := mC u' - mC u, slots := mS u' - mS u, locals := lo } (va_Pc (vs.map (cv K u)) (fun U => zKU K U ∧ Cz K U u U.heap)) (zPoT K rv r u') (zXC K r u') (mC u' - mC u) (mS u' - mS u) (zA K)
section GT
variable {β : Type} {own : String} {cc : ByteArray} {nL : Nat} {rt : Option FieldType} {ini : Bool} {fr lo : Nat} {ob : β → zM → Prop} {c0 s0 pc : Nat} {A : List (Nat × Value)} {B : List (Nat × Int64)} {st : List Value} {u : zM}
theorem go_endT {tb : List ExceptionTableEntry} {stE : List Value} {b : β} {rv : β → Option Value} (hob : zWf u → okS u stE → ob b u)
    (hw : ∀ (K : zK) (p : Program) (l : Launch) (e : Env) (R : Room) (s : State) (m : MethodId) (args : Array Value) (below : List Frame) (meth : Method) (c : Code) (H : Heap) (locs : List Loc) (ls : Array Slot) (cells slots : Nat) (Qc : Array Value → State → Outcome → State → Prop), zCx own cc nL rt ini fr lo tb K p R s m args meth c → (∀ t : State, t.heap = H → s.WarmedH t.vm → Qc args s (.returned ((rv b).map (cv K u))) t) → (∀ q ∈ locs, zA K q.base) →
      W p l e R s m args below meth c H locs cells slots (MQ below Qc args s cells slots (zA K)) (F0 m pc ls (stE.map (cv K u)))) : Go own cc nL rt ini fr lo tb (obX ob) (zQT rv) c0 s0 pc A B stE u (some (.inl b, u)) := by
  intro b' u' ho hwf hA hS
  cases ho
  refine ⟨⟨hwf, zEx.rf, hob hwf hS⟩, fun K p l e R s m args below meth c H locs ls hc q1 q2 q3 q4 hC hV hL => ?_⟩
  exact vz_ret (hw K p l e R s m args below meth c H locs ls _ _ (zPo K rv b u) hc (fun t ht hW => ⟨rfl, by rw [ht]; exact hC.moved hW.alike, hV.F ht⟩) hV.2.2)
theorem go_vreturnT {tb : List ExceptionTableEntry} (hrt : rt = none) (d : decode cc pc = .ok (.return_, 1)) : Go (β := Unit ⊕ Nat) own cc nL rt ini fr lo tb (obX obT) (zQT rvV) c0 s0 pc A B [] u (some (.inl (), u)) :=
  go_endT (stE := []) (b := ()) (rv := rvV) (fun _ _ => trivial) (fun K p l e R s m args below meth c H locs ls cells slots Qc hc hq hf => W.vret hc.1 hc.2.1 (hc.2.2.1.trans hrt) hq hf d hc.2.2.2.2.2.2.1)
theorem go_areturnT {tb : List ExceptionTableEntry} {r : Option Nat} {k : Nat} {ty : FieldType} (hrt : rt = some ty) (hty : zRefTy ty) (hk : ∀ n, r = some n → kd n = k) (d : decode cc pc = .ok (.areturn, 1)) : Go (β := Option Nat ⊕ Nat) own cc nL rt ini fr lo tb (obX (obR k)) (zQT rvR) c0 s0 pc A B [va_rf r] u (some (.inl r, u)) :=
  go_endT (stE := [va_rf r]) (b := r) (rv := rvR) (fun _ hS n h => ⟨okV_rf.mp (okS_cons.mp hS).1 n h, hk n h⟩) (fun K p l e R s m args below meth c H locs ls cells slots Qc hc hq hf => W.aret hc.1 hc.2.1 (hc.2.2.1.trans hrt) hty (by rw [cv_rf]; cases r.map (ad K u) with
    | none => exact Or.inl rfl
    | some a => exact Or.inr ⟨a, rfl⟩) hq hf d hc.2.2.2.2.2.2.1)
/-- the cell of a Fault -/
theorem zFault {K : zK} {s : State} {n : Nat} {H : Heap} (hK : va_K K.1 zCl [] s) (hC : Cz K s u H) (hn : al u n) (hk : kd n = 11) : ∃ ce : Cell, H[ad K u n]? = some ce ∧ ce.vm = .none ∧ s.vm.findClass "WheelLand$Fault" = some ce.cls := by
  obtain ⟨r', hr', cellV, g1, g2, g3, -⟩ := zAt_obj hC hn hk (by decide)
  exact ⟨cellV, g1, g3, by rw [g2]; exact (hK.1 11 (RX11, TX11, 7) rfl).2.1⟩
theorem go_athrow {rv : β → Option Value} {n : Nat} (hk : kd n = 11) (d : decode cc pc = .ok (.athrow, 1)) : Go (β := β ⊕ Nat) own cc nL rt ini fr lo [] (obX ob) (zQT rv) c0 s0 pc A B (.ref n :: st) u (some (.inr n, u)) := by
  intro b' u' ho hwf hA hS
  cases ho
  have hn : al u n := okV_ref.mp (okS_cons.mp hS).1
  refine ⟨⟨hwf, zEx.rf, ⟨hn, hk⟩⟩, fun K p l e R s m args below meth c H locs ls hc q1 q2 q3 q4 hC hV hL => ?_⟩
  obtain ⟨ce, e1, e2, e3⟩ := zFault hc.2.2.2.2.2.2.2.2.2.2.1.1 hC hn hk
  refine vz_athrow hc.1 hc.2.1 d ?_
  exact vz_out (E := "WheelLand$Fault") (ce := ce) (fun x hx => by rw [hc.2.2.2.2.2.2.2.2.2.2.2] at hx; cases hx) hc.2.2.2.2.2.2.1 e1 e2 e3 (fun t ht hW => ⟨rfl, rfl, by rw [ht]; exact hC.moved hW, hV.F ht⟩) hV.2.2 (Nat.le_refl _) (Nat.le_refl _)
/-- what is left of a call that has thrown -/
theorem go_callT {α γ : Type} {obg : γ → zM → Prop} {Qf : zQf γ} {tb : List ExceptionTableEntry} {rv : α → Option Value} {oba : α → zM → Prop} {idx n bn ci : Nat} {vs : List Value} {y : MethodName} {code : ByteArray} {nLy : Nat} {ret : Option FieldType} {fy ly : Nat} {F : zM → Option ((α ⊕ Nat) × zM)} {f : α → zM → Option (γ × zM)} {h : Nat → zM → Option (γ × zM)} {stA : List Value} {C : String} {T : u_T} {N : Nat}
    (hM : zMetT y code nLy ret fy ly rv oba (.ref bn :: vs) F) (hLV : zLV own idx y code nLy ret n) (hn : vs.length = n) (hcl : zCl[ci]? = some (C, T, N)) (hy : C = y.cls) (hci : ci < 13) (hk : kd bn = ci) (hfr : fy + 1 ≤ fr ∧ 8 + (nLy + 11) + ly ≤ lo) (hcat : (st.map fun v => v.category).sum ≤ 8) (d : decode cc pc = .ok (.invokevirtual idx, 3)) (hst : stA = (Value.ref bn :: vs).reverse ++ st)
    (g : ∀ (a : α) (u1 : zM), oba a u1 → (∀ v, rv a = some v → okV u1 v) ∧ Go own cc nL rt ini fr lo tb obg Qf c0 s0 (pc + 3) A B ((rv a).toList ++ st) u1 (f a u1))
    (gx : ∀ (nn : Nat) (u1 : zM), kd nn = 11 → ∀ (b : γ) (u' : zM), h nn u1 = some (b, u') → zWf u1 → al u1 nn → okL u1 A → (zWf u' ∧ zEx u1 u' ∧ obg b u') ∧
      ∀ (K : zK) (p : Program) (l : Launch) (e : Env) (R : Room) (s : State) (m : MethodId) (args : Array Value) (below : List Frame) (meth : Method) (c : Code) (H : Heap) (locs : List Loc) (ls : Array Slot) (rest : List Value), zCx own cc nL rt ini fr lo tb K p R s m args meth c → c0 ≤ mC u1 → s0 ≤ mS u1 → mC u' - c0 ≤ R.cells → mS u' - s0 ≤ R.slots → Cz K s u1 H → va_S (zA K) s.heap H locs → lzHas K u1 ls nL A B →
        vz_W p l e R s m args below meth c H locs (mC u1 - c0) (mS u1 - s0) (Qf K below args s (mC u' - c0) (mS u' - s0) b u') (F0 m pc ls rest) (ad K u1 nn)) : Go own cc nL rt ini fr lo tb obg Qf c0 s0 pc A B stA u (bc (F u) f h) := by
  subst hst
  subst hy
  intro b u' ho hwf hA hS
  unfold bc at ho
  have hvs : okS u (.ref bn :: vs) := fun v hv => hS v (List.mem_append_left _ (List.mem_reverse.mpr hv))
  have hst' : okS u st := fun v hv => hS v (List.mem_append_right _ hv)
  have hal : al u bn := okV_ref.mp (okS_cons.mp hvs).1
  cases hF : F u with
  | none => rw [hF] at ho; cases ho
  | some z =>
    obtain ⟨r, u1⟩ := z
    rw [hF] at ho
    obtain ⟨⟨w1, w2, w3⟩, hMet⟩ := hM u r u1 hF hwf hvs
    have run : ∀ (K : zK) (p : Program) (l : Launch) (e : Env) (R : Room) (s : State) (m : MethodId) (args : Array Value) (below : List Frame) (meth : Method) (c : Code) (H : Heap) (locs : List Loc) (ls : Array Slot), zCx own cc nL rt ini fr lo tb K p R s m args meth c → c0 ≤ mC u → s0 ≤ mS u → mC u1 - c0 ≤ R.cells → mS u1 - s0 ≤ R.slots → Cz K s u H → ls.size = nL →
        vz_Run p l e R s m args below meth c H locs (mC u - c0) (mS u - s0) (mC u1 - mC u) (mS u1 - mS u) (F0 m pc ls (((Value.ref bn :: vs).reverse ++ st).map (cv K u))) (st.map (cv K u)) (zPoT K rv r u1 ((Value.ref bn :: vs).map (cv K u)).toArray) (zXC K r u1) (zA K) := by
      intro K p l e R s m args below meth c H locs ls hc q1 q2 q3 q4 hC hls
      have m1 := w2.1
      have m2 := w2.2.1
      have hrecv : ∃ cell : Cell, H[ad K u bn]? = some cell ∧ cell.vm.isStatics = false ∧ s.vm.findClass y.cls = some cell.cls := by
        obtain ⟨r', hr', cellV, g1, g2, g3, -⟩ := zAt_obj hC hal hk hci
        exact ⟨cellV, g1, by rw [g3]; rfl, by rw [g2]; exact (hc.2.2.2.2.2.2.2.2.2.2.1.1.1 ci _ hcl).2.1⟩
      refine vz_runV (As := vs.map (cv K u)) (rest := st.map (cv K u)) (C := y.cls) ⟨hc.1, hc.2.1, hc.2.2.2.1, hc.2.2.2.2.1, hc.2.2.2.2.2.1⟩ (hMet K l) (cwV n hc.2.2.2.2.2.1 hLV.1 rfl rfl rfl ⟨rfl, hLV.2⟩ ⟨Nat.le_trans hfr.1 hc.2.2.2.2.2.2.2.2.1, Nat.le_trans hfr.2 hc.2.2.2.2.2.2.2.2.2.1⟩) ⟨fun a0 U0 g0 mk0 q => ⟨q.1, (zKU.same (s := U0) (U := U0.calling g0 mk0 a0) rfl q.2.1), Cz.moved (s := U0) (U := U0.calling g0 mk0 a0) (Vm.Alike.refl U0.vm) q.2.2⟩, hrecv, fun U hU hW => ⟨rfl, hc.2.2.2.2.2.2.2.2.2.2.1.warm hW, by rw [hU]; exact hC.moved hW.alike⟩⟩ rfl (by rw [List.length_map]; exact hn) hls ?_ (lv_room (cats_cv hcat)) d ⟨by omega, by omega⟩
      show ((Value.ref bn :: vs).reverse ++ st).map (cv K u) = _
      rw [List.reverse_cons, List.append_assoc, List.map_append, List.map_reverse]
      rfl
    cases r with
    | inl a =>
      obtain ⟨gv, gg⟩ := g a u1 w3
      obtain ⟨h1, h2⟩ := gg b u' ho w1 (hA.ex w2) (fun v hv => by
        rcases List.mem_append.mp hv with q | q
        · cases hr : rv a with
          | none => rw [hr] at q; cases q
          | some x =>
            rw [hr] at q
            rw [List.mem_singleton.mp q]
            exact gv x hr
        · exact (hst' v q).ex w2)
      refine ⟨⟨h1.1, w2.tr h1.2.1, h1.2.2⟩, fun K p l e R s m args below meth c H locs ls hc q1 q2 q3 q4 hC hV hL => ?_⟩
      have m1 := w2.1
      have m2 := w2.2.1
      have m3 := h1.2.1.1
      have m4 := h1.2.1.2.1
      have hr := run K p l e R s m args below meth c H locs ls hc q1 q2 (by omega) (by omega) hC hL.1
      intro T hT X
      rcases hr T hT X with ⟨v, st₀, t, T', L, z0', X', hL', e1, e2, ⟨hv, hCt, hF1, hF2⟩, stp⟩ | ⟨q, st₀, t, T', L, E, ce, z0', X', hL', e1, e2, hx, -⟩
      · cases Outcome.returned.inj hv
        have hV1 : va_S (zA K) s.heap T'.heap (locs ++ L) := by
          rw [z0'] at hF1 hF2
          exact ⟨Nat.le_trans hV.1 (by rw [e1]; exact hF1), fun q a1 a2 => by rw [e1, hF2 q (Nat.lt_of_lt_of_le a1 hV.1) a2]; exact hV.2.1 q a1 a2, fun q hq => by
            rcases List.mem_append.mp hq with h | h
            · exact hV.2.2 q h
            · exact hL' q h⟩
        have hC1 : Cz K s u1 T'.heap := by
          rw [e1]
          exact hCt.moved (by rw [← e2]; exact X'.warmed.alike.symm)
        have k := h2 K p l e R s m args below meth c T'.heap (locs ++ L) ls hc (by omega) (by omega) q3 q4 hC1 hV1 (hL.ex hA w2)
        have n1 : mC u1 - c0 = mC u - c0 + (mC u1 - mC u) := by omega
        have n2 : mS u1 - s0 = mS u - s0 + (mS u1 - mS u) := by omega
        rw [n1, n2, List.map_append, cvS_ex hst' w2] at k
        have n3 : ((rv a).toList.map (cv K u1)) = ((rv a).map (cv K u1)).toList := by cases rv a <;> rfl
        rw [n3] at k
        obtain ⟨t2, a1, b1⟩ := k T' rfl X'
        exact ⟨t2, stp t2 a1, b1⟩
      · exact hx.elim
    | inr nn =>
      obtain ⟨h1, h2⟩ := gx nn u1 w3.2 b u' ho w1 w3.1 (hA.ex w2)
      refine ⟨⟨h1.1, w2.tr h1.2.1, h1.2.2⟩, fun K p l e R s m args below meth c H locs ls hc q1 q2 q3 q4 hC hV hL => ?_⟩
      have m1 := w2.1
      have m2 := w2.2.1
      have m3 := h1.2.1.1
      have m4 := h1.2.1.2.1
      have hr := run K p l e R s m args below meth c H locs ls hc q1 q2 (by omega) (by omega) hC hL.1
      intro T hT X
      rcases hr T hT X with ⟨v, st₀, t, T', L, z0', X', hL', e1, e2, hx, stp⟩ | ⟨q, st₀, t, T', L, E, ce, z0', X', hL', e1, e2, ⟨hE, hq, hCt, hF1, hF2⟩, hce, hcv, hcc, stp⟩
      · exact hx.elim
      · have hV1 : va_S (zA K) s.heap T'.heap (locs ++ L) := by
          rw [z0'] at hF1 hF2
          exact ⟨Nat.le_trans hV.1 (by rw [e1]; exact hF1), fun q a1 a2 => by rw [e1, hF2 q (Nat.lt_of_lt_of_le a1 hV.1) a2]; exact hV.2.1 q a1 a2, fun q hq => by
            rcases List.mem_append.mp hq with h | h
            · exact hV.2.2 q h
            · exact hL' q h⟩
        have hC1 : Cz K s u1 T'.heap := by
          rw [e1]
          exact hCt.moved (by rw [← e2]; exact X'.warmed.alike.symm)
        have k := h2 K p l e R s m args below meth c T'.heap (locs ++ L) ls (st.map (cv K u)) hc (by omega) (by omega) q3 q4 hC1 hV1 (hL.ex hA w2)
        have n1 : mC u1 - c0 = mC u - c0 + (mC u1 - mC u) := by omega
        have n2 : mS u1 - s0 = mS u - s0 + (mS u1 - mS u) := by omega
        rw [n1, n2, ← hq] at k
        obtain ⟨t2, a1, b1⟩ := k T' rfl X'
        exact ⟨t2, stp.trans a1, b1⟩
/-- a call that may throw, in a method that throws on -/
theorem go_callX {α : Type} {rvb : β → Option Value} {rv : α → Option Value} {oba : α → zM → Prop} {idx n bn ci : Nat} {vs : List Value} {y : MethodName} {code : ByteArray} {nLy : Nat} {ret : Option FieldType} {fy ly : Nat} {F : zM → Option ((α ⊕ Nat) × zM)} {f : α → zM → Option ((β ⊕ Nat) × zM)} {stA : List Value} {C : String} {T : u_T} {N : Nat}
    (hM : zMetT y code nLy ret fy ly rv oba (.ref bn :: vs) F) (hLV : zLV own idx y code nLy ret n) (hn : vs.length = n) (hcl : zCl[ci]? = some (C, T, N)) (hy : C = y.cls) (hci : ci < 13) (hk : kd bn = ci) (hfr : fy + 1 ≤ fr ∧ 8 + (nLy + 11) + ly ≤ lo) (hcat : (st.map fun v => v.category).sum ≤ 8) (d : decode cc pc = .ok (.invokevirtual idx, 3)) (hst : stA = (Value.ref bn :: vs).reverse ++ st)
    (g : ∀ (a : α) (u1 : zM), oba a u1 → (∀ v, rv a = some v → okV u1 v) ∧ Go own cc nL rt ini fr lo [] (obX ob) (zQT rvb) c0 s0 (pc + 3) A B ((rv a).toList ++ st) u1 (f a u1)) : Go own cc nL rt ini fr lo [] (obX ob) (zQT rvb) c0 s0 pc A B stA u (bt (F u) f) := by
  have e : bt (F u) f = bc (F u) f (fun n u1 => some (.inr n, u1)) := by
    unfold bt bc
    rcases F u with _ | ⟨_ | _, _⟩ <;> rfl
  rw [e]
  refine go_callT hM hLV hn hcl hy hci hk hfr hcat d hst g (fun nn u1 hkn b u' hb hwf hal hA => ?_)
  cases hb
  refine ⟨⟨hwf, zEx.rf, ⟨hal, hkn⟩⟩, fun K p l e R s m args below meth c H locs ls rest hc q1 q2 q3 q4 hC hV hL => ?_⟩
  obtain ⟨ce, e1, e2, e3⟩ := zFault hc.2.2.2.2.2.2.2.2.2.2.1.1 hC hal hkn
  exact vz_out (E := "WheelLand$Fault") (ce := ce) (fun x hx => by rw [hc.2.2.2.2.2.2.2.2.2.2.2] at hx; cases hx) hc.2.2.2.2.2.2.1 e1 e2 e3 (fun t ht hW => ⟨rfl, rfl, by rw [ht]; exact hC.moved hW, hV.F ht⟩) hV.2.2 (Nat.le_refl _) (Nat.le_refl _)
theorem go_callXV {rvb : β → Option Value} {idx n bn ci : Nat} {vs : List Value} {y : MethodName} {code : ByteArray} {nLy : Nat} {ret : Option FieldType} {fy ly : Nat} {F : zM → Option ((Unit ⊕ Nat) × zM)} {f : Unit → zM → Option ((β ⊕ Nat) × zM)} {stA : List Value} {C : String} {T : u_T} {N : Nat}
    (hM : zMetT y code nLy ret fy ly rvV obT (.ref bn :: vs) F) (hLV : zLV own idx y code nLy ret n) (hn : vs.length = n) (hcl : zCl[ci]? = some (C, T, N)) (hy : C = y.cls) (hci : ci < 13) (hk : kd bn = ci) (hfr : fy + 1 ≤ fr ∧ 8 + (nLy + 11) + ly ≤ lo) (hcat : (st.map fun v => v.category).sum ≤ 8) (d : decode cc pc = .ok (.invokevirtual idx, 3)) (hst : stA = (Value.ref bn :: vs).reverse ++ st)
    (g : ∀ (r : Unit) (u1 : zM), Go own cc nL rt ini fr lo [] (obX ob) (zQT rvb) c0 s0 (pc + 3) A B st u1 (f r u1)) : Go own cc nL rt ini fr lo [] (obX ob) (zQT rvb) c0 s0 pc A B stA u (bt (F u) f) := go_callX hM hLV hn hcl hy hci hk hfr hcat d hst fun a u1 h => ⟨okv_V, g a u1⟩
/-- a call in a method with one handler, of Faults: caught at hpc -/
theorem go_callC {α γ : Type} {obg : γ → zM → Prop} {rvb : γ → Option Value} {rv : α → Option Value} {oba : α → zM → Prop} {idx n bn ci lo0 hi0 hpc ct : Nat} {vs : List Value} {y : MethodName} {code : ByteArray} {nLy : Nat} {ret : Option FieldType} {fy ly : Nat} {F : zM → Option ((α ⊕ Nat) × zM)} {f : α → zM → Option (γ × zM)} {h : Nat → zM → Option (γ × zM)} {stA : List Value} {C : String} {T : u_T} {N : Nat}
    (hM : zMetT y code nLy ret fy ly rv oba (.ref bn :: vs) F) (hLV : zLV own idx y code nLy ret n) (hn : vs.length = n) (hcl : zCl[ci]? = some (C, T, N)) (hy : C = y.cls) (hci : ci < 13) (hk : kd bn = ci) (hfr : fy + 1 ≤ fr ∧ 8 + (nLy + 11) + ly ≤ lo) (hcat : (st.map fun v => v.category).sum ≤ 8) (d : decode cc pc = .ok (.invokevirtual idx, 3)) (hst : stA = (Value.ref bn :: vs).reverse ++ st)
    (hcov : ∀ x ∈ tableOf [(lo0, hi0, hpc, ct)], covers x pc = true ∧ x.catchType = ct ∧ x.handlerPc = hpc) (hct : ct ≠ 0) (hlk : Cond.classLink own ct "WheelLand$Fault" ∈ lw_all)
    (g : ∀ (a : α) (u1 : zM), oba a u1 → (∀ v, rv a = some v → okV u1 v) ∧ Go own cc nL rt ini fr lo (tableOf [(lo0, hi0, hpc, ct)]) obg (zQ rvb) c0 s0 (pc + 3) A B ((rv a).toList ++ st) u1 (f a u1))
    (gx : ∀ (nn : Nat) (u1 : zM), kd nn = 11 → Go own cc nL rt ini fr lo (tableOf [(lo0, hi0, hpc, ct)]) obg (zQ rvb) c0 s0 hpc A B [.ref nn] u1 (h nn u1)) : Go own cc nL rt ini fr lo (tableOf [(lo0, hi0, hpc, ct)]) obg (zQ rvb) c0 s0 pc A B stA u (bc (F u) f h) := by
  refine go_callT hM hLV hn hcl hy hci hk hfr hcat d hst g (fun nn u1 hkn b u' hb hwf hal hA => ?_)
  obtain ⟨h1, h2⟩ := gx nn u1 hkn b u' hb hwf hA (okS_cons.mpr ⟨okV_ref.mpr hal, okS_nil⟩)
  refine ⟨h1, fun K p l e R s m args below meth c H locs ls rest hc q1 q2 q3 q4 hC hV hL => ?_⟩
  obtain ⟨ce, e1, e2, e3⟩ := zFault hc.2.2.2.2.2.2.2.2.2.2.1.1 hC hal hkn
  have k := h2 K p l e R s m args below meth c H locs ls hc q1 q2 q3 q4 hC hV hL
  obtain ⟨x, hx⟩ : ∃ x, tableOf [(lo0, hi0, hpc, ct)] = [x] := ⟨_, rfl⟩
  obtain ⟨c1, c2, c3⟩ := hcov x (by rw [hx]; exact List.mem_singleton_self x)
  refine vz_catch (E := "WheelLand$Fault") (name := "WheelLand$Fault") hc.2.2.2.2.1 [] x [] (by rw [hc.2.2.2.2.2.2.2.2.2.2.2, hx]; rfl) (fun z hz => by cases hz) c1 (by rw [c2]; exact hct) (by rw [c2]; exact hc.2.2.2.2.2.1 _ hlk) (va_Nw.use rfl hc.2.2.2.2.2.2.2.2.2.2.1.2.2.2.1) e1 e2 e3 ?_
  rw [c3]
  exact k
end GT
/-- the contract of a throwing method out of its body's walk -/
theorem zMetT_of {β : Type} {y : MethodName} {cc : ByteArray} {nL : Nat} {rt : Option FieldType} {ini : Bool} {fr lo : Nat} {ob : β → zM → Prop} {rv : β → Option Value} {vs : List Value} {F : zM → Option ((β ⊕ Nat) × zM)} {A : List (Nat × Value)} {B : List (Nat × Int64)} (own : String) (hown : y.cls = own) (hy : plainName y.cls = true) (hini : ini = true → y.name = "<init>") (hlen : (lg_sl vs).length ≤ nL)
    (hA : ∀ q ∈ A, q ∈ lv_args 0 vs ∧ q.2.category = 1) (hU : aUq A = true) (hB : ∀ q ∈ B, (q.1, Value.long q.2) ∈ lv_args 0 vs)
    (g : ∀ u : zM, Go own cc nL rt ini fr lo [] (obX ob) (zQT rv) (mC u) (mS u) 0 A B [] u (F u)) : zMetT y cc nL rt fr lo rv ob vs F := by
  intro u b u' hF hwf hvs
  obtain ⟨h1, h2⟩ := g u b u' hF hwf ⟨fun q hq => ⟨hvs _ (lv_args_mem vs 0 q (hA q hq).1), (hA q hq).2⟩, hU⟩ okS_nil
  refine ⟨h1, fun K l => ?_⟩
  refine MetFree.of_bodyS (code := cc) (maxLocals := nL) (ret := rt) hy ?_ ?_
  · intro args s m h hn
    obtain ⟨meth, c, h1, h2, h3, h4, h5, h6, -, -⟩ := Cond.code_spec hn (atoms_spec (ws := ws_ y cc nL rt) h _ List.mem_cons_self)
    exact ⟨meth, c, h1, h2, h3, h4, h5, h6⟩
  · intro p e s m args below meth c s₁ B' hml hP _
    have hh0 : s₁.heap = s.heap := by rw [B'.state]; rfl
    have ht : c.exceptionTable.toList = [] := by
      obtain ⟨meth9, c9, h1, h2, -, -, -, -, h7, -⟩ := Cond.code_spec B'.named (atoms_spec (ws := ws_ y cc nL rt) B'.pre _ List.mem_cons_self)
      cases Option.some.inj (h1.symm.trans B'.method)
      cases Option.some.inj (h2.symm.trans (Stand.of_body B').code)
      rw [Array.isEmpty_iff.mp h7]
    obtain ⟨rfl, hKU, hC⟩ := hP
    have hts := atoms_spec (ws := ws_ y cc nL rt) B'.pre
    have hts : ∀ w ∈ lw_all, w.before _ s = true := fun w h => hts w (List.mem_cons_of_mem _ h)
    have hl := lv_entry (vs.map (cv K u)) (n := nL) (by rw [lg_sl_len]; exact hlen)
    have hL : lzHas K u ((lg_sl (vs.map (cv K u)) ++ List.replicate (nL - (lg_sl (vs.map (cv K u))).length) Slot.unset).toArray) nL A B := by
      refine ⟨hl.1, hl.2.1, fun q hq => hl.2.2 q ?_⟩
      rw [lv_args_map]
      rcases List.mem_append.mp hq with z | z
      · obtain ⟨w, hw, rfl⟩ := List.mem_map.mp z
        exact List.mem_map.mpr ⟨w, (hA w hw).1, rfl⟩
      · obtain ⟨w, hw, rfl⟩ := List.mem_map.mp z
        exact List.mem_map.mpr ⟨_, hB w hw, rfl⟩
    have k := h2 K p l e (headSpec (ws_ y cc nL rt) ({ frames := fr, cells := mC u' - mC u, slots := mS u' - mS u, locals := lo })).room s m _ below meth c s.heap [] _ ⟨B'.exec, B'.bytes, B'.returns, hml, by rw [← hown]; exact findClass_of_methodNamed B'.named, hts, B'.notSynchronized, fun h => by rw [← hini h]; exact (name_of_methodNamed B'.named B'.method).1, Nat.le_refl _, Nat.le_refl _, hKU, ht⟩ (Nat.le_refl _) (Nat.le_refl _) (Nat.le_refl _) (Nat.le_refl _) hC va_S.rf hL
    rw [Nat.sub_self, Nat.sub_self] at k
    rw [← hh0] at k
    rw [List.map_nil, ← lg_entry_eq] at k
    obtain ⟨t, a1, o, b1, b2, b3⟩ := k s₁ rfl (Stand.of_body B')
    exact ⟨t, o, a1, b1, b2, b3⟩
