set_option maxRecDepth 100000
/-! calls that throw -/
def EndT (first t : State) (L : List Loc) (k n : Nat) : Prop := first.WarmedH t.vm ∧ first.sameButNew ({ t with vm := first.vm } : State) L k n
/-- a contract: the method throws -/
def MetT (l : Launch) (y : MethodName) (ws : List Cond) (rm : Room) (Pc : Array Value → State → Prop) (Qc : Addr → State → State → Prop) (mc ms : Nat) : Prop :=
  MetFree l y (headSpec ws rm) Pc (fun _ _ _ _ _ => True) (fun _ st o t => ∃ x, o = .threw x ∧ Qc x st t ∧ EndT st t [] mc ms)
def MQT (below : List Frame) (Qc : Addr → State → State → Prop) (s : State) (mc ms : Nat) : State → Prop := fun t => ∃ x, t.status = .running ∧ Ended t below (.threw x) ∧ Qc x s t ∧ EndT s t [] mc ms
theorem MetT.ofW {l : Launch} {y : MethodName} {ws ws' : List Cond} {rm : Room} {Pc : Array Value → State → Prop} {Qc : Addr → State → State → Prop} {mc ms : Nat} {cc : ByteArray} {maxL : Nat} {ret : Option FieldType}
    (hy : plainName y.cls = true) (hw : ws = Cond.code y cc maxL ret :: ws')
    (body : ∀ p e s m args below meth c s₁, BodyLoose p l y (headSpec ws rm) cc maxL ret e s m args below meth c s₁ → c.maxLocals = maxL → Pc args s →
      W p l e (headSpec ws rm).room s m args below meth c s.heap [] 0 0 (MQT below Qc s mc ms) (entryFrame m args maxL)) : MetT l y ws rm Pc Qc mc ms := by
  refine MetFree.of_bodyS (code := cc) (maxLocals := maxL) (ret := ret) hy ?_ ?_
  · intro args s m h hn
    obtain ⟨meth, c, h1, h2, h3, h4, h5, h6, -, -⟩ := Cond.code_spec hn (atoms_spec (ws := ws) h _ (by rw [hw]; exact List.mem_cons_self))
    exact ⟨meth, c, h1, h2, h3, h4, h5, h6⟩
  · intro p e s m args below meth c s₁ B hml hP _
    have hh0 : s₁.heap = s.heap := by rw [B.state]; rfl
    obtain ⟨t, a1, x, b1, b2, b3, b4⟩ := body p e s m args below meth c s₁ B hml hP s₁ hh0 (Stand.of_body B)
    exact ⟨t, .threw x, a1, b1, b2, x, rfl, b3, b4⟩
section TB
variable {l : Launch} {R : Room} {p : Program} {e : Env} {below : List Frame} {s : State} {args : Array Value} {y : MethodName}
/-- the callee throws: the note lies over the caller's frame -/
theorem backT {ws : List Cond} {rm : Room} {Pc : Array Value → State → Prop} {Qc : Addr → State → State → Prop} {mc ms : Nat} {own : String} {index n : Nat} {bytes : ByteArray} {maxL : Nat} {ret : Option FieldType}
    (cb : CallB R s args own index y bytes maxL ret ws rm mc ms n) (hM : MetT l y ws rm Pc Qc mc ms) (hbl : FrameBlind Pc)
    {m : MethodId} {meth : Method} {c : Code} {U : State} {locs : List Loc} {cells slots : Nat} {g : JFrame} {ig : Instr} {mk : MethodId} {a : Array Value}
    (X : Stand p l e R s m args below meth c U locs cells slots) (hg : g.method = m) (hsize : g.locals.size = c.maxLocals) (hdg : decode c.code g.pc = .ok (ig, 3)) (hW : 2 * g.monitorRoom + (g.stack.map fun v => v.category).sum ≤ 8)
    (hn : U.methodNamed? y = some mk) (hc : cells + mc ≤ R.cells) (hs : slots + ms ≤ R.slots) (hp : Pc a U) :
    ∃ (x : Addr) (st₀ t T' : State), st₀.heap = U.heap ∧ Stand p l e R s m args below meth c T' locs (cells + mc) (slots + ms) ∧ T'.heap = t.heap ∧ Qc x st₀ t ∧ Steps p.tables e below (doInvoke e (U.setTop g) [] mk a).1 ((T'.setTop g).pushFrame (.throwing x)) := by
  obtain ⟨hrc, hrs, hfr, hlo, hws, hcw, -, hini, -⟩ := cb
  have hwarm := X.warmed
  have h1 : (headSpec ws rm).pre.before a U = true := atoms_intro fun w hw => hws w hw _ _ hwarm
  have h2 := hws _ hcw a U hwarm
  have h3 : (Cond.initialized y.cls).before a U = true := word_at hwarm (Or.inl (by first | rfl | simp [Cond.onTables, Cond.keeps, Cond.steady])) hini
  obtain ⟨methY, cY, hmY, hcY, -, hlY, -, -, -, -⟩ := Cond.code_spec hn h2
  obtain ⟨kY, hkY, -⟩ := className_of_methodNamed hn
  have hinitY : kY.init = .initialized := Cond.initialized_spec (findClass_of_methodNamed hn) hkY h3
  have h : At U g.method c below := by rw [hg]; exact X.here
  have happ : (headSpec ws rm).appliesLoose y e.platform (U.calling g mk a) = true :=
    Spec.appliesLoose_calling (g := g) h hdg hn hkY hinitY
      (X.room_calling (g := g) (R' := (headSpec ws rm).room) hsize hmY hcY hfr (by rw [hlY]; show _ + rm.locals ≤ _; omega) (by rw [show (headSpec ws rm).room.cells = mc from hrc]; exact hc) (by rw [show (headSpec ws rm).room.slots = ms from hrs]; exact hs)) h1
  obtain ⟨mid, hmid⟩ := h.above
  have hfr2 : (U.setTop g).frames = (.java g :: mid) ++ below := by rw [State.frames_setTop' g h.top, hmid]; rfl
  obtain ⟨o, s₂, hsteps, -, hend, hq⟩ := Steps.callFree hM p X.admits X.cas X.clock (acts := []) hfr2 happ (hbl _ _ _ _ hp) trivial
  obtain ⟨x, rfl, hqc, hWt, hsame⟩ := hq
  rw [State.frames_setTop' g h.top, X.tail] at hend
  obtain ⟨T', X', hW', hS', ht⟩ := X.outOfThrown hg hend hWt hsame
  refine ⟨x, _, s₂, T', ?_, by simpa using X', ?_, hqc, ?_⟩
  · show (U.calling g mk a).heap = U.heap
    rfl
  · rw [ht, Stand.throwing_heap]
  · rw [← ht]; exact hsteps
end TB
def CallRunT (p : Program) (l : Launch) (e : Env) (R : Room) (s : State) (m : MethodId) (args : Array Value) (below : List Frame) (meth : Method) (c : Code) (H : Heap) (locs : List Loc) (cells slots mc ms : Nat) (g : JFrame) (rest : List Value) (Qa : Addr → State → State → Prop) : Prop :=
  ∀ T : State, T.heap = H → Stand p l e R s m args below meth c T locs cells slots → ∃ (x : Addr) (st₀ t T' : State), st₀.heap = H ∧ Stand p l e R s m args below meth c T' locs (cells + mc) (slots + ms) ∧ T'.heap = t.heap ∧ Qa x st₀ t ∧
    ∀ tg, Steps p.tables e below ((T'.setTop { g with stack := rest }).pushFrame (.throwing x)) tg → Steps p.tables e below (T.setTop g) tg
section TR
variable {p : Program} {l : Launch} {e : Env} {R : Room} {s : State} {m : MethodId} {args : Array Value} {below : List Frame} {meth : Method} {c : Code} {H : Heap} {locs : List Loc} {cells slots : Nat} {Q : State → Prop}
  {Ts ws ws' : List Cond} {cc bytes : ByteArray} {nL maxL index n mc ms : Nat} {own C : String} {y : MethodName} {ret : Option FieldType} {rm : Room} {Pc : Array Value → State → Prop} {Qc : Addr → State → State → Prop}
  {b : Addr} {As rest : List Value} {g : JFrame} {a : Array Value}
theorem T.runS (S : CallFix p m c cc nL s args Ts own) (hM : MetT l y ws rm Pc Qc mc ms) (cw : CallB R s args own index y bytes maxL ret ws rm mc ms n ∧ (Cond.static y).before args s = true) (hp : PreS s H Pc As)
    (hg : g.method = m) (hn : As.length = n) (hsize : g.locals.size = nL) (hstack : g.stack = As.reverse ++ rest) (hW : 2 * g.monitorRoom + (rest.map fun v => v.category).sum ≤ 8) (hdg : decode cc g.pc = .ok (.invokestatic index, 3)) (hf : cells + mc ≤ R.cells ∧ slots + ms ≤ R.slots) :
    CallRunT p l e R s m args below meth c H locs cells slots mc ms g rest Qc := by
  have cb := cw.1
  obtain ⟨⟨-, -, -, -, -, -, hcode, hini, hy, hlen, hlk⟩, hstt⟩ := cw
  obtain ⟨hx, hb, hml, ho, -⟩ := S
  intro T hT X
  obtain ⟨mk, hnamed⟩ := Cond.code_named hcode
  obtain ⟨methM, cM, hmethM, -, -, -, -, -, -, hsigM⟩ := Cond.code_spec hnamed hcode
  have hstatic : methM.isStatic = true := Cond.static_spec hnamed hmethM hstt
  obtain ⟨kP, hkP, -⟩ := className_of_methodNamed hnamed
  have hinitP : kP.init = .initialized := Cond.initialized_spec (findClass_of_methodNamed hnamed) hkP hini
  obtain ⟨vm₁, X₁, hstep₁⟩ := X.invokestatic hx ho hlk hnamed hmethM hstatic hkP hinitP hy (g := g) hg (argsL := As) (rest := rest) (hn.trans (hlen _ hsigM)) hstack (by rw [hb]; exact hdg)
  obtain ⟨x, st₀, t, T', h0, X', e1, hq, hsteps⟩ := backT cb hM hp.1 (g := { g with stack := rest }) (mk := mk) (a := As.toArray) X₁ hg (hsize.trans hml.symm) (by rw [hb]; exact hdg) hW (X₁.named hnamed) hf.1 hf.2 (hp.2 _ hT X₁.warmed)
  exact ⟨x, st₀, t, T', h0.trans hT, X', e1, hq, fun tg h => hstep₁ _ fun acts => by rw [doInvoke_state]; exact hsteps.trans h⟩
theorem T.runV (S : CallFix p m c cc nL s args Ts own) (hM : MetT l y ws rm Pc Qc mc ms) (cw : CallW R s args own C index y bytes maxL ret ws rm mc ms n) (hp : PreV s H C b Pc As)
    (hg : g.method = m) (hn : As.length = n) (hsize : g.locals.size = nL) (hstack : g.stack = As.reverse ++ .ref b :: rest) (hW : 2 * g.monitorRoom + (rest.map fun v => v.category).sum ≤ 8) (hdg : decode cc g.pc = .ok (.invokevirtual index, 3)) (hf : cells + mc ≤ R.cells ∧ slots + ms ≤ R.slots) :
    CallRunT p l e R s m args below meth c H locs cells slots mc ms g rest Qc := by
  have cb := cw.1
  obtain ⟨⟨-, -, -, -, -, -, hcode, -, hy, hlen, hlk⟩, hin, hse⟩ := cw
  obtain ⟨hx, hb, hml, ho, -⟩ := S
  obtain ⟨hbl, ⟨cellB, hcB, hoB, hclB⟩, hPc⟩ := hp
  intro T hT X
  obtain ⟨mk, methM, hnamed, hmethM, hstM, habM⟩ := Cond.instanceMethod_spec hin
  obtain ⟨methM', cM, hmethM', -, -, -, -, -, -, hsigM⟩ := Cond.code_spec hnamed hcode
  cases hmethM.symm.trans hmethM'
  obtain ⟨c2, r2, m2, q1, q2, q3, q4, kP, hkP, hkPi⟩ := Cond.selects_spec hse
  cases hclB.symm.trans q1
  cases (State.methodFound?_of_named hnamed hy).symm.trans q2
  cases hnamed.symm.trans q3
  have hselP : selectMethod e.platform s.vm cellB.cls mk = .method mk := by rw [Launch.admits_selectMethod X.admits]; exact q4
  obtain ⟨vm₁, X₁, hstep₁⟩ := X.invokevirtual hx ho hlk hnamed hmethM hstM hkP hkPi hy (a := b) (cell := cellB) (by rw [hT]; exact hcB)
    (fun z h => by rw [h] at hoB; cases hoB) hselP hmethM habM hkP hkPi (g := g) hg (argsL := As) (rest := rest) (hn.trans (hlen _ hsigM)) hstack (by rw [hb]; exact hdg)
  obtain ⟨x, st₀, t, T', h0, X', e1, hq, hsteps⟩ := backT cb hM hbl (g := { g with stack := rest }) (mk := mk) (a := (Value.ref b :: As).toArray) X₁ hg (hsize.trans hml.symm) (by rw [hb]; exact hdg) hW (X₁.named hnamed) hf.1 hf.2 (hPc _ hT X₁.warmed)
  exact ⟨x, st₀, t, T', h0.trans hT, X', e1, hq, fun tg h => hstep₁ _ fun acts => by rw [doInvoke_state]; exact hsteps.trans h⟩
/-- out of a method without handlers -/
theorem T.out {Qa Qc' : Addr → State → State → Prop} {pc : Nat} {ls : Array Slot} {st0 : List Value} (hr : CallRunT p l e R s m args below meth c H [] cells slots mc ms (F0 m pc ls st0) rest Qa) (hemp : c.exceptionTable = #[]) (hlocks : meth.locks = false)
    (hq : ∀ (x : Addr) (st₀ t u : State), st₀.heap = H → u.heap = t.heap → Qa x st₀ t → Qc' x s u) : W p l e R s m args below meth c H [] cells slots (MQT below Qc' s (cells + mc) (slots + ms)) (F0 m pc ls st0) := by
  intro T hT X
  obtain ⟨x, st₀, t, T', h0, X', e1, hqa, st⟩ := hr T hT X
  obtain ⟨w1, w2, w3, w4, w5⟩ := X'.leaveThrown x (g := { F0 m pc ls st0 with stack := rest }) rfl rfl rfl (fun y hy => by
    have : c.exceptionTable.toList = [] := by rw [hemp]
    rw [this] at hy
    cases hy) hlocks
  exact ⟨_, st _ w1, x, w2, w3, hq x st₀ t _ h0 (by rw [← e1]; rfl) hqa, w4, w5⟩
end TR
