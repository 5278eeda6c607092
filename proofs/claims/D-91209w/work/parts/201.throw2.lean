set_option maxRecDepth 100000
/-- a static reference that nobody writes, with what the tables say of it -/
def TZ (O n d : String) (A : Nat → Prop) (U : State) (H : Heap) : Prop := ∃ (c : ClassId) (k : Class) (i : Nat) (f : Field) (a : Nat) (cell : Cell) (v : Value), U.vm.findClass O = some c ∧ U.fieldFound? O n d = some (c, k, i, f) ∧ f.isStatic = true ∧ k.statics = some a ∧ H[a]? = some cell ∧ cell.vm.isStatics = true ∧ cell.cls = c ∧ f.slot < cell.slots.size ∧ k.staticTypes[f.slot]? = some f.type ∧ cell.slots[f.slot]? = some v ∧ v.isRef = true ∧ ¬ A a
theorem TZ.moved {O n d : String} {A : Nat → Prop} {u U : State} {H : Heap} (hvm : u.vm.Alike U.vm) (h : TZ O n d A u H) : TZ O n d A U H := by
  obtain ⟨c, k, i, f, a, cell, v, h1, h2, h3, h4, h5, h6, h7, h8, h9, h10⟩ := h
  obtain ⟨k', hi', he⟩ := State.fieldFound?_setVm hvm h2
  exact ⟨c, k', i, f, a, cell, v, by rw [hvm.findClass]; exact h1, hi', h3, by rw [he]; exact h4, h5, h6, h7, h8, by rw [he]; exact h9, h10⟩
theorem TZ.kept {O n d : String} {A : Nat → Prop} {U : State} {H H1 : Heap} (h : TZ O n d A U H) (hq : ∀ a : Nat, a < H.size → ¬ A a → H1[a]? = H[a]?) : TZ O n d A U H1 := by
  obtain ⟨c, k, i, f, a, cell, v, h1, h2, h3, h4, h5, h6, h7, h8, h9, h10, h11, h12⟩ := h
  exact ⟨c, k, i, f, a, cell, v, h1, h2, h3, h4, by rw [hq a (Array.getElem?_eq_some_iff.mp h5).1 h12]; exact h5, h6, h7, h8, h9, h10, h11, h12⟩
theorem TZ.narrow {O n d : String} {A B : Nat → Prop} {U : State} {H : Heap} (h : TZ O n d A U H) (hAB : ∀ q, B q → A q) : TZ O n d B U H := by
  obtain ⟨c, k, i, f, a, cell, v, h1, h2, h3, h4, h5, h6, h7, h8, h9, h10, h11, h12⟩ := h
  exact ⟨c, k, i, f, a, cell, v, h1, h2, h3, h4, h5, h6, h7, h8, h9, h10, h11, fun q => h12 (hAB _ q)⟩
theorem TZ.lays {O n d : String} {A : Nat → Prop} {U : State} {args : Array Value} (h : TZ O n d A U U.heap) : (Cond.laysStatic O n d).before args U = true := by
  obtain ⟨c, k, i, f, a, cell, v, h1, h2, h3, h4, h5, h6, h7, h8, h9, h10, h11, h12⟩ := h
  simp [Cond.before, Cond.holds, Cond.value, h1, h2, h3, h4, h5, h6, h7, h8, h9]
theorem TZ.ref {O n d : String} {A : Nat → Prop} {U : State} {args : Array Value} (h : TZ O n d A U U.heap) : (Cond.isRef (.static O n d)).before args U = true := by
  obtain ⟨c, k, i, f, a, cell, v, h1, h2, h3, h4, h5, h6, h7, h8, h9, h10, h11, h12⟩ := h
  have e : (Term.static O n d).eval args U none [] U = some v := by
    simp [Term.eval, State.fieldNamed?, h2, h3, h4, h5, h6, h10]
  simp only [Cond.before, Cond.holds, Cond.value, e]
  cases v <;> first | rfl | (simp [Value.isRef] at h11)
theorem TZ.of {O n d : String} {A : Nat → Prop} {U : State} {args : Array Value} (hl : (Cond.laysStatic O n d).before args U = true) (hr : (Cond.isRef (.static O n d)).before args U = true) (hA : ∀ a : Nat, a < U.heap.size → ¬ A a) : TZ O n d A U U.heap := by
  obtain ⟨c, k, i, f, a, cell, h1, h2, h3, h4, h5, h6, h7, h8, h9⟩ := Cond.laysStatic_spec hl
  cases hv : (Term.static O n d).eval args U none [] U with
  | none => simp [Cond.before, Cond.holds, Cond.value, hv] at hr
  | some v =>
    obtain ⟨-, a', cell', ha', hcell', -, hslot⟩ := Term.static_spec h2 hv
    cases h4.symm.trans ha'
    cases h5.symm.trans hcell'
    refine ⟨c, k, i, f, a, cell, v, h1, h2, h3, h4, h5, h6, h7, h8, h9, hslot, ?_, hA a (Array.getElem?_eq_some_iff.mp h5).1⟩
    simp only [Cond.before, Cond.holds, Cond.value, hv] at hr
    cases v <;> simp_all [Value.isRef]
/-- what an exception's making asks of the statics -/
def TX (A : Nat → Prop) (U : State) : Prop := TZ "java/lang/Throwable" "UNASSIGNED_STACK" "[Ljava/lang/StackTraceElement;" A U U.heap ∧ TZ "java/lang/Throwable" "SUPPRESSED_SENTINEL" "Ljava/util/List;" A U U.heap
theorem TX.call {A : Nat → Prop} {s U : State} {H : Heap} {locs : List Loc} (h : TX A s) (hS : va_S A s.heap H locs) (hU : U.heap = H) (hvm : s.vm.Alike U.vm) : TX A U := by
  unfold TX
  rw [hU]
  exact ⟨(h.1.kept hS.2.1).moved hvm, (h.2.kept hS.2.1).moved hvm⟩
theorem TX.blind {A : Nat → Prop} {U : State} {g : JFrame} {mk : MethodId} {a : Array Value} (h : TX A U) : TX A (U.calling g mk a) := h.call va_S.rf rfl (Vm.Alike.refl U.vm)
theorem TX.narrow {A B : Nat → Prop} {U : State} (h : TX A U) (hAB : ∀ q, B q → A q) : TX B U := ⟨h.1.narrow hAB, h.2.narrow hAB⟩
def xNames : List String := ["java/lang/RuntimeException", "java/lang/Exception"]
def xSpec (X : String) : List Cond := [.laysStatic "java/lang/Throwable" "UNASSIGNED_STACK" "[Ljava/lang/StackTraceElement;", .laysStatic "java/lang/Throwable" "SUPPRESSED_SENTINEL" "Ljava/util/List;", .declares ⟨"java/lang/RuntimeException", "<init>", "()V"⟩, .declares ⟨"java/lang/Exception", "<init>", "()V"⟩, .declares ⟨"java/lang/Throwable", "<init>", "()V"⟩, .castable X X, .isRef (.static "java/lang/Throwable" "UNASSIGNED_STACK" "[Ljava/lang/StackTraceElement;"), .isRef (.static "java/lang/Throwable" "SUPPRESSED_SENTINEL" "Ljava/util/List;")]
theorem xAll18 : (Jvm.Bundle.ownAtoms0 RX1 36 "java/util/NoSuchElementException" xNames).all (fun a => lw_all.any (fun w => decide (w = a)) || (xSpec "java/util/NoSuchElementException").any (fun w => decide (w = a))) = true := by decide +kernel
theorem xAll6 : (Jvm.Bundle.ownAtoms0 RX1 39 "java/lang/IllegalArgumentException" xNames).all (fun a => lw_all.any (fun w => decide (w = a)) || (xSpec "java/lang/IllegalArgumentException").any (fun w => decide (w = a))) = true := by decide +kernel
theorem xTbl18 : ((xSpec "java/util/NoSuchElementException").take 6).all (fun a => lw_tbl.any (fun w => decide (w = a))) = true := by decide +kernel
theorem xTbl6 : ((xSpec "java/lang/IllegalArgumentException").take 6).all (fun a => lw_tbl.any (fun w => decide (w = a))) = true := by decide +kernel
theorem any_mem {L : List Cond} {a : Cond} (h : L.any (fun w => decide (w = a)) = true) : a ∈ L := by
  obtain ⟨w, h1, h2⟩ := List.any_eq_true.mp h
  have := of_decide_eq_true h2
  subst this
  exact h1
theorem xOwn {D : va_G} {cA : Nat → ClassId} {A : Nat → Prop} {s : State} {args : Array Value} {ic : Nat} {X : String} (hall : (Jvm.Bundle.ownAtoms0 RX1 ic X xNames).all (fun a => lw_all.any (fun w => decide (w = a)) || (xSpec X).any (fun w => decide (w = a))) = true) (htb : ((xSpec X).take 6).all (fun a => lw_tbl.any (fun w => decide (w = a))) = true)
    (hts : ∀ w ∈ lw_all, w.before args s = true) (hK : Kx D cA s) (hT : TX A s) : ∀ a ∈ Jvm.Bundle.ownAtoms0 RX1 ic X xNames, a.before args s = true := by
  intro a ha
  have h1 := List.all_eq_true.mp hall a ha
  rw [Bool.or_eq_true] at h1
  have hin : ∀ w ∈ (xSpec X).take 6, w ∈ lw_tbl := fun w hw => any_mem (List.all_eq_true.mp htb w hw)
  rcases h1 with h1 | h1
  · exact hts a (any_mem h1)
  · have h2 := any_mem h1
    simp only [xSpec, List.mem_cons, List.not_mem_nil, or_false] at h2
    rcases h2 with rfl | rfl | rfl | rfl | rfl | rfl | rfl | rfl
    · exact hT.1.lays
    · exact hT.2.lays
    · exact va_Nw.use rfl (hK.2.2.2 _ (hin _ (by simp [xSpec])) (Or.inr (Or.inr ⟨_, rfl⟩)))
    · exact va_Nw.use rfl (hK.2.2.2 _ (hin _ (by simp [xSpec])) (Or.inr (Or.inr ⟨_, rfl⟩)))
    · exact va_Nw.use rfl (hK.2.2.2 _ (hin _ (by simp [xSpec])) (Or.inr (Or.inr ⟨_, rfl⟩)))
    · exact va_Nw.use rfl (hK.2.2.2 _ (hin _ (by simp [xSpec])) (Or.inr (Or.inl ⟨_, _, rfl⟩)))
    · exact hT.1.ref
    · exact hT.2.ref
/-- the end of a call that throws: an object of that class, made by it; what there was is as it was -/
def QT (D : va_G) (ci : Nat) : Addr → State → State → Prop := fun x st t => isO D ci x t.heap ∧ st.heap.size ≤ x ∧ st.heap.size ≤ t.heap.size ∧ ∀ q, q < st.heap.size → t.heap[q]? = st.heap[q]?
theorem same_heap {s t : State} {k n : Nat} (h : s.sameButNew ({ t with vm := s.vm } : State) [] k n) : s.heap.size ≤ t.heap.size ∧ ∀ q, q < s.heap.size → t.heap[q]? = s.heap[q]? := by
  obtain ⟨h1, h2, h3, h4, h5, h6⟩ := h
  refine ⟨h2, fun q hq => ?_⟩
  have hc : s.heap[q]? = some s.heap[q] := Array.getElem?_eq_getElem hq
  obtain ⟨c', g1, g2, g3, g4⟩ := h6 q _ hc
  have g1 : t.heap[q]? = some c' := g1
  rw [g1, hc]
  have g5 : c'.slots = s.heap[q].slots := Array.ext_getElem? fun i => g4 i List.not_mem_nil
  rw [g2, g5]
