set_option maxRecDepth 100000
/-! catching; calls of methods with handlers -/
theorem go_cold {e : Env} {s : State} {f : JFrame} {a : Addr} {x : Jvm.ClassFile.ExceptionTableEntry} {t : List Jvm.ClassFile.ExceptionTableEntry} {c : ClassId} {vm' : Vm} {cell : Cell} (hx : covers x f.pc = true) (h0 : x.catchType ≠ 0)
    (hg : (Jvm.resolveClass f.method.cls x.catchType).Gives e.toSetting s.vm (.ok c) vm') (hsz : vm'.classes.size ≤ s.vm.classes.size) (hcell : s.heap[a]? = some cell) (hobj : ∀ k, cell.vm ≠ .statics k)
    (hk : ∃ k, vm'.classes[cell.cls]? = some k) (hc : ∃ k, vm'.classes[c]? = some k) {Q : Handler → Pre} {E : CtlPost} {d : Bool} {acts : List Action} :
    Sem.wp (findHandler.go f a (x :: t)) Q E e d acts s ↔ if vm'.assignable cell.cls c = true then Q (.found x.handlerPc) d acts (s.setVm vm') else Sem.wp (findHandler.go f a t) Q E e d acts (s.setVm vm') := by
  simp only [covers] at hx
  obtain ⟨ha, ht⟩ := hg.op (op := VmOp.resolveClass f.method.cls x.catchType) rfl
  cases hfit : vm'.assignable cell.cls c <;>
    simp [findHandler.go, hx, h0, ha, ht, hsz, hcell, hobj, hk, hc, hfit, VmOp.dirties, VmOp.acts]
theorem caughtC {tb : Tables} {e : Env} {s target : State} {g : JFrame} {c : Code} {below : List Frame} {a : Addr} {vm' : Vm} (h : At s g.method c below) {pc : Nat}
    (hfind : ∀ (Q : Handler → Pre) (E : CtlPost) (d : Bool) (acts : List Action), Sem.wp (findHandler g a) Q E e d acts ((s.setTop g).pushFrame (.throwing a)) ↔ Q (.found pc) d acts (((s.setTop g).pushFrame (.throwing a)).setVm vm'))
    (hrest : Steps tb e below ((s.setVm vm').setTop { g with pc := pc, stack := [.ref a] }) target) : Steps tb e below ((s.setTop g).pushFrame (.throwing a)) target := by
  obtain ⟨hgo, hw⟩ := h.throwing a
  refine Steps.head hgo hw ?_
  obtain ⟨g₀, hg⟩ := Option.isSome_iff_exists.mp h.top
  obtain ⟨r, hr⟩ := State.topJava?_eq_some.mp hg
  have h1 : (stepThrowing e ((s.setTop g).pushFrame (.throwing a)) a (.java g :: r)).1 = (((s.setTop g).pushFrame (.throwing a)).setVm vm').setFrames (.java { g with pc := pc, stack := [.ref a] } :: r) := by
    simp only [stepThrowing, searchFrame, vmDo]
    generalize hr : Sem.go _ e false [] _ = res
    obtain ⟨as, rfl, ha⟩ := Sem.eq_ok_of hr (a := Handler.found pc) (s' := ((s.setTop g).pushFrame (.throwing a)).setVm vm') (acts' := []) (by simp [hfind _ _ _ _])
    rfl
  have h2 : s.frames.tail = r := by rw [hr]; rfl
  rw [stepThread_throwing (frames_entered h.top _), h2, h1]
  have hr' : (s.setVm vm').frames = .java g₀ :: r := hr
  rw [State.setTop_of_frames _ hr'] at hrest
  rw [State.pushFrame, State.setTop_of_frames _ hr, State.setFrames_setFrames]
  have h3 : ∀ X Y : List Frame, ((s.setFrames X).setVm vm').setFrames Y = (s.setVm vm').setFrames Y := fun X Y => by
    show ((s.setVm vm').setFrames X).setFrames Y = _
    rw [State.setFrames_setFrames]
  rw [h3]
  exact hrest
section TC
variable {p : Program} {l : Launch} {e : Env} {R : Room} {s : State} {m : MethodId} {args : Array Value} {below : List Frame} {meth : Method} {c : Code} {H : Heap} {locs : List Loc} {cells slots mc ms : Nat} {Q : State → Prop}
/-- one clause, of the class thrown -/
theorem T.catch1 {D : va_G} {cA : Nat → ClassId} {ci : Nat} {q : vw_C} {own : String} {index lo hi hp pc : Nat} {tl : List (Nat × Nat × Nat × Nat)} {ls : Array Slot} {st0 rest : List Value}
    (hr : CallRunT p l e R s m args below meth c H locs cells slots mc ms (F0 m pc ls st0) rest (QT D ci)) (hK : Kx D cA s) (hc : CL[ci]? = some q) (hself : (Cond.castable q.1 q.1).before args s = true) (hown : s.vm.findClass own = some m.cls) (hlink : (Cond.classLink own index q.1).before args s = true)
    (htab : c.exceptionTable.toList.map (fun h => (h.startPc, h.endPc, h.handlerPc, h.catchType)) = (lo, hi, hp, index) :: tl) (hlo : lo ≤ pc) (hhi : pc < hi) (h0 : index ≠ 0)
    (k : ∀ (x : Addr) (H' : Heap), isO D ci x H' → H.size ≤ H'.size → (∀ q, q < H.size → H'[q]? = H[q]?) → W p l e R s m args below meth c H' locs (cells + mc) (slots + ms) Q (F0 m hp ls [.ref x])) : W p l e R s m args below meth c H locs cells slots Q (F0 m pc ls st0) := by
  intro T hT X
  obtain ⟨x, st₀, t, T', g0, X', g1, ⟨⟨cell, q1, q2, q3⟩, -, q4, q5⟩, st⟩ := hr T hT X
  have hpl : e.platform.magicAccessors = ({} : Platform).magicAccessors := by rw [X.admits.platform]
  obtain ⟨c', hc', hcl⟩ := Cond.classLink_spec hown hlink e.platform hpl
  have hfc : s.vm.findClass q.1 = some (D.1 ci) := (hK.1.1 ci q hc).2.1
  cases hfc.symm.trans hc'
  obtain ⟨dk, _, _, kt, hd, _, _, _, _, hkt, _, hopen⟩ := hcl.here
  have hcl₀ := X'.warmed.classLinks hcl
  have hW' : s.WarmedH (T'.vm.noted m.cls index (.cls (D.1 ci))) := X'.warmed.noted hd hopen (State.rightAt_cls hcl)
  obtain ⟨kt', hkt', -⟩ := hW'.alike.2.2 _ _ hkt
  obtain ⟨cs, ts, i1, i2, i3⟩ := Cond.castable_spec hself
  cases hfc.symm.trans i1
  cases hfc.symm.trans i2
  obtain ⟨en, rs, hen⟩ : ∃ en rs, c.exceptionTable.toList = en :: rs := by
    cases hh : c.exceptionTable.toList with
    | nil => rw [hh] at htab; cases htab
    | cons a b => exact ⟨a, b, rfl⟩
  rw [hen] at htab
  have htab1 := (List.cons.inj htab).1
  obtain ⟨e1, e2, e3, e4⟩ : en.startPc = lo ∧ en.endPc = hi ∧ en.handlerPc = hp ∧ en.catchType = index := by
    simpa using htab1
  obtain ⟨t2, a1, b1⟩ := k x t.heap ⟨cell, q1, q2, q3⟩ (by rw [← g0]; exact q4) (fun q hq => by rw [← g0]; exact q5 q (by rw [g0]; exact hq)) (T'.setVm (T'.vm.noted m.cls index (.cls (D.1 ci)))) g1 (X'.noted hW')
  refine ⟨t2, st _ ?_, b1⟩
  refine caughtC (g := { F0 m pc ls st0 with stack := rest }) (vm' := T'.vm.noted m.cls index (.cls (D.1 ci))) (pc := hp) X'.here ?_ a1
  intro Q1 E1 d1 acts1
  rw [W.findHandler_eq (meth := meth) (code := c) (by rw [Stand.throwing_vm]; exact (X'.warmed.alike.method? _).trans X'.method) X'.code, hen,
    go_cold (c := D.1 ci) (cell := cell) (vm' := T'.vm.noted m.cls index (.cls (D.1 ci))) (by simp only [covers, e1, e2]; simp [hlo, hhi]) (by rw [e4]; exact h0) (by rw [Stand.throwing_vm, e4]; exact resolveClass_links e.toSetting hcl₀) (by rw [Stand.throwing_vm]; exact Nat.le_of_eq (Vm.size_noted ..))
      (by rw [Stand.throwing_heap, g1]; exact q1) (fun k hk => by rw [hk] at q2; cases q2) ⟨kt', by rw [q3]; exact hkt'⟩ ⟨kt', hkt'⟩, if_pos (by rw [q3, hW'.alike.assignable]; exact i3), e3]
/-- two clauses; the object is none of the first's -/
theorem T.catch2 {D : va_G} {cA : Nat → ClassId} {ci cj : Nat} {q r : vw_C} {own : String} {i1 i2 lo hi h1 h2 pc : Nat} {ls : Array Slot} {st0 rest : List Value}
    (hr : CallRunT p l e R s m args below meth c H locs cells slots mc ms (F0 m pc ls st0) rest (QT D ci)) (hK : Kx D cA s) (hc : CL[ci]? = some q) (hcj : CL[cj]? = some r) (hself : (Cond.castable q.1 q.1).before args s = true) (hno : va_Nc q.1 r.1 s) (hown : s.vm.findClass own = some m.cls) (hl1 : (Cond.classLink own i1 r.1).before args s = true) (hl2 : (Cond.classLink own i2 q.1).before args s = true)
    (htab : c.exceptionTable.toList.map (fun h => (h.startPc, h.endPc, h.handlerPc, h.catchType)) = [(lo, hi, h1, i1), (lo, hi, h2, i2)]) (hlo : lo ≤ pc) (hhi : pc < hi) (h01 : i1 ≠ 0) (h02 : i2 ≠ 0)
    (k : ∀ (x : Addr) (H' : Heap), isO D ci x H' → H.size ≤ H'.size → (∀ q, q < H.size → H'[q]? = H[q]?) → W p l e R s m args below meth c H' locs (cells + mc) (slots + ms) Q (F0 m h2 ls [.ref x])) : W p l e R s m args below meth c H locs cells slots Q (F0 m pc ls st0) := by
  intro T hT X
  obtain ⟨x, st₀, t, T', g0, X', g1, ⟨⟨cell, q1, q2, q3⟩, -, q4, q5⟩, st⟩ := hr T hT X
  have hpl : e.platform.magicAccessors = ({} : Platform).magicAccessors := by rw [X.admits.platform]
  have hfc : s.vm.findClass q.1 = some (D.1 ci) := (hK.1.1 ci q hc).2.1
  have hfj : s.vm.findClass r.1 = some (D.1 cj) := (hK.1.1 cj r hcj).2.1
  obtain ⟨c', hc', hcl⟩ := Cond.classLink_spec hown hl2 e.platform hpl
  cases hfc.symm.trans hc'
  obtain ⟨c', hc', hclj⟩ := Cond.classLink_spec hown hl1 e.platform hpl
  cases hfj.symm.trans hc'
  obtain ⟨dkj, _, _, ktj, hdj, _, _, _, _, hktj, _, hopenj⟩ := hclj.here
  obtain ⟨dk, _, _, kt, hd, _, _, _, _, hkt, _, hopen⟩ := hcl.here
  have hclj₀ := X'.warmed.classLinks hclj
  have hWj : s.WarmedH (T'.vm.noted m.cls i1 (.cls (D.1 cj))) := X'.warmed.noted hdj hopenj (State.rightAt_cls hclj)
  have Xj := X'.noted hWj
  have hcl₀ := Xj.warmed.classLinks hcl
  have hW' : s.WarmedH ((T'.vm.noted m.cls i1 (.cls (D.1 cj))).noted m.cls i2 (.cls (D.1 ci))) := Xj.warmed.noted hd hopen (State.rightAt_cls hcl)
  have X2 := Xj.noted hW'
  obtain ⟨ktj1, hktj1, -⟩ := hWj.alike.2.2 _ _ hktj
  obtain ⟨kt1, hkt1, -⟩ := hWj.alike.2.2 _ _ hkt
  obtain ⟨kt', hkt', -⟩ := hW'.alike.2.2 _ _ hkt
  obtain ⟨cs, ts, j1, j2, j3⟩ := Cond.castable_spec hself
  cases hfc.symm.trans j1
  cases hfc.symm.trans j2
  obtain ⟨cs, ts, n1, n2, n3⟩ := hno
  cases hfc.symm.trans n1
  cases hfj.symm.trans n2
  obtain ⟨en, fn, hen⟩ : ∃ en fn, c.exceptionTable.toList = [en, fn] := by
    cases hh : c.exceptionTable.toList with
    | nil => rw [hh] at htab; cases htab
    | cons a b =>
      rw [hh] at htab
      cases b with
      | nil => cases htab
      | cons b1 b2 =>
        cases b2 with
        | nil => exact ⟨a, b1, rfl⟩
        | cons b3 b4 => exact absurd (congrArg List.length htab) (by simp)
  rw [hen] at htab
  obtain ⟨⟨e1, e2, e3, e4⟩, f1, f2, f3, f4⟩ : (en.startPc = lo ∧ en.endPc = hi ∧ en.handlerPc = h1 ∧ en.catchType = i1) ∧ fn.startPc = lo ∧ fn.endPc = hi ∧ fn.handlerPc = h2 ∧ fn.catchType = i2 := by
    simpa using htab
  obtain ⟨t2, a1, b1⟩ := k x t.heap ⟨cell, q1, q2, q3⟩ (by rw [← g0]; exact q4) (fun q hq => by rw [← g0]; exact q5 q (by rw [g0]; exact hq)) (T'.setVm ((T'.vm.noted m.cls i1 (.cls (D.1 cj))).noted m.cls i2 (.cls (D.1 ci)))) g1 X2
  refine ⟨t2, st _ ?_, b1⟩
  refine caughtC (g := { F0 m pc ls st0 with stack := rest }) (vm' := (T'.vm.noted m.cls i1 (.cls (D.1 cj))).noted m.cls i2 (.cls (D.1 ci))) (pc := h2) X'.here ?_ a1
  intro Q1 E1 d1 acts1
  rw [W.findHandler_eq (meth := meth) (code := c) (by rw [Stand.throwing_vm]; exact (X'.warmed.alike.method? _).trans X'.method) X'.code, hen,
    go_cold (c := D.1 cj) (cell := cell) (vm' := T'.vm.noted m.cls i1 (.cls (D.1 cj))) (by simp only [covers, e1, e2]; simp [hlo, hhi]) (by rw [e4]; exact h01) (by rw [Stand.throwing_vm, e4]; exact resolveClass_links e.toSetting hclj₀) (by rw [Stand.throwing_vm]; exact Nat.le_of_eq (Vm.size_noted ..))
      (by rw [Stand.throwing_heap, g1]; exact q1) (fun k hk => by rw [hk] at q2; cases q2) ⟨kt1, by rw [q3]; exact hkt1⟩ ⟨ktj1, hktj1⟩, if_neg (by rw [q3, hWj.alike.assignable, n3]; decide),
    go_cold (c := D.1 ci) (cell := cell) (vm' := (T'.vm.noted m.cls i1 (.cls (D.1 cj))).noted m.cls i2 (.cls (D.1 ci))) (by simp only [covers, f1, f2]; simp [hlo, hhi]) (by rw [f4]; exact h02) (by rw [f4]; exact resolveClass_links e.toSetting hcl₀) (Nat.le_of_eq (Vm.size_noted ..))
      (by
        have hz : (((T'.setTop { F0 m pc ls st0 with stack := rest }).pushFrame (.throwing x)).setVm (T'.vm.noted m.cls i1 (.cls (D.1 cj)))).heap = T'.heap := Stand.throwing_heap T' { F0 m pc ls st0 with stack := rest } x
        rw [hz, g1]; exact q1) (fun k hk => by rw [hk] at q2; cases q2) ⟨kt', by rw [q3]; exact hkt'⟩ ⟨kt', hkt'⟩, if_pos (by rw [q3, hW'.alike.assignable]; exact j3), f3]
  rfl
/-- the call of a static method with handlers -/
theorem W.runSW {cc bytes : ByteArray} {nL maxL index n : Nat} {own : String} {y : MethodName} {ret : Option FieldType} {hh : List (Nat × Nat × Nat × Nat)} {rm : Room} {Pc : Array Value → State → Prop} {Qc : Array Value → State → Outcome → State → Prop} {free : Addr → Prop} {As rest : List Value} {g : JFrame}
    (S : CallFix p m c cc nL s args lw_all own) (hM : Met l y (wsW_ y bytes maxL ret hh) rm Pc Qc mc ms free) (hG : GoodIn lw_all (va_wsS own index y (wsW_ y bytes maxL ret hh))) (hrc : rm.cells = mc) (hrs : rm.slots = ms)
    (hd : y.cls ≠ "java/lang/invoke/MethodHandle" ∧ y.cls ≠ "java/lang/invoke/VarHandle" ∧ (parseMethodDescriptor y.desc).map (fun d => d.parameters.length) = some n) (hR : rm.frames + 1 ≤ R.frames ∧ 8 + (maxL + 11) + rm.locals ≤ R.locals) (hp : PreS s H Pc As)
    (hg : g.method = m) (hn : As.length = n) (hsize : g.locals.size = nL) (hstack : g.stack = As.reverse ++ rest) (hW : 2 * g.monitorRoom + (rest.map fun v => v.category).sum ≤ 8) (hdg : decode cc g.pc = .ok (.invokestatic index, 3)) (hf : cells + mc ≤ R.cells ∧ slots + ms ≤ R.slots) :
    CallRun p l e R s m args below meth c H locs cells slots mc ms g rest (Qc As.toArray) (free) := by
  obtain ⟨hx, hb, hml, ho, hts⟩ := S
  have ok : ∀ w ∈ va_wsS own index y (wsW_ y bytes maxL ret hh), w.before args s = true := fun w h => hts w (hG w h).1
  have hlk : (Cond.methodLink own index y).before args s = true := ok _ (by simp [va_wsS])
  have hstt : (Cond.static y).before args s = true := ok _ (by simp [va_wsS])
  have hini : (Cond.initialized y.cls).before args s = true := ok _ (by simp [va_wsS])
  have hcode : (Cond.codeWith y bytes maxL ret hh).before args s = true := ok _ (by simp [va_wsS])
  have hGw : GoodIn lw_all (wsW_ y bytes maxL ret hh) := fun w h => hG w (by unfold va_wsS; exact List.mem_append_right _ h)
  have hK : Back l R p e below s args y 3 8 (PreOf R mc ms Pc) (PostOf Qc mc ms free) := va_backW (hh := hh) (bytes := bytes) (maxL := maxL) (ret := ret) hM hp.1 hrc hrs hR.1 hR.2 (pay_in hts hGw) List.mem_cons_self (fun a' U hW => word_at hW (Or.inl (by first | rfl | simp [Cond.onTables, Cond.keeps, Cond.steady])) hini)
  intro T hT X
  obtain ⟨mk, methM, cM, hnamed, hmethM, -, -, -, -, -, -, hsigM⟩ := Cond.codeWith_spec hcode
  have hstatic : methM.isStatic = true := Cond.static_spec hnamed hmethM hstt
  obtain ⟨kP, hkP, -⟩ := className_of_methodNamed hnamed
  have hinitP : kP.init = .initialized := Cond.initialized_spec (findClass_of_methodNamed hnamed) hkP hini
  have hlen : As.length = methM.sig.parameters.length := by
    have h2 := hd.2.2
    rw [hsigM] at h2
    exact hn.trans (Option.some.inj h2).symm
  obtain ⟨vm₁, X₁, hstep₁⟩ := X.invokestatic hx ho hlk hnamed hmethM hstatic hkP hinitP ⟨hd.1, hd.2.1⟩ (g := g) hg (argsL := As) (rest := rest) hlen hstack (by rw [hb]; exact hdg)
  obtain ⟨v, ⟨U', l2, c2, s2⟩, X', ⟨g', mk', t, L, e1, e2, hq, h1, hL, h2, h3⟩, hsteps⟩ := hK m meth c ⟨T.setVm vm₁, locs, cells, slots⟩ { g with stack := rest } (.invokestatic index) mk As.toArray X₁ hg (hsize.trans hml.symm) (by rw [hb]; exact hdg) hW (X₁.named hnamed) ⟨hf.1, hf.2, hp.2 (T.setVm vm₁) hT X₁.warmed⟩
  dsimp only [Pt.U, Pt.locs, Pt.cells, Pt.slots] at X' e1 e2 h1 h2 h3 hsteps
  subst h1; subst h2; subst h3
  exact ⟨v, (T.setVm vm₁).calling g' mk' As.toArray, t, U', L, hT, X', hL, e1, hq, fun target h => hstep₁ _ fun acts => by rw [doInvoke_state]; exact hsteps.trans h⟩
end TC
