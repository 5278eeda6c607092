set_option maxRecDepth 100000
/-! lists: what the JDK's ArrayList is asked, its cells -/
def k2_Qv : Array Value → State → Outcome → State → Prop := fun _ st o t => o = .returned none ∧ t.heap = st.heap
def Pq (D : va_G) (cA : Nat → ClassId) (av : List Value) (B : State → Prop) : Array Value → State → Prop := fun v U => v = av.toArray ∧ Kx D cA U ∧ B U
theorem Pq.blind {D : va_G} {cA : Nat → ClassId} {av : List Value} {B : State → Prop} (hB : ∀ (U : State) (g : JFrame) (mk : MethodId) (a : Array Value), B U → B (U.calling g mk a)) : FrameBlind (Pq D cA av B) := fun a U g mk h => ⟨h.1, h.2.1.blind, hB U g mk a h.2.2⟩
section R0
variable {p : Program} {l : Launch} {e : Env} {R : Room} {s : State} {m : MethodId} {args : Array Value} {below : List Frame} {meth : Method} {c : Code} {H : Heap} {locs : List Loc} {cells slots : Nat} {Q : State → Prop} {cc : ByteArray} {pc : Nat} {ls : Array Slot} {rest : List Value}
theorem rc_0 {a : Array Value} {st0 : List Value} (hr : CallRun p l e R s m args below meth c H locs cells slots 0 0 (F0 m pc ls st0) rest (k2_Qv a) (fun _ => False)) (kk : W p l e R s m args below meth c H locs cells slots Q (F0 m (pc + 3) ls rest)) : W p l e R s m args below meth c H locs cells slots Q (F0 m pc ls st0) := by
  intro T hT X
  obtain ⟨v', st₀, t, T', L, h0, X', hL, e1, ⟨hv, hh⟩, st⟩ := hr T hT X
  cases hv
  obtain ⟨t2, a1, b1⟩ := kk T' (by rw [e1, hh, h0]) (Stand.forget X' (fun q h => (hL q h).elim))
  exact ⟨t2, st t2 a1, b1⟩
end R0
def gl (n : Nat) (f : Nat → Nat) : Nat → Option Nat := fun j => if j < n then some (f j) else none
theorem gl_at {n j : Nat} {f : Nat → Nat} (h : j < n) : gl n f j = some (f j) := if_pos h
theorem gl_up (n : Nat) (f : Nat → Nat) (v : Nat) : va_up (gl n f) n (some v) = gl (n + 1) (va_up f n v) := by
  funext j
  unfold va_up gl
  dsimp only
  by_cases h : j = n
  · subst h
    rw [if_pos rfl, if_pos (by omega), if_pos rfl]
  · rw [if_neg h]
    by_cases h2 : j < n
    · rw [if_pos h2, if_pos (by omega), if_neg h]
    · rw [if_neg h2, if_neg (by omega)]
theorem gl_dn (n : Nat) (f : Nat → Nat) : va_up (gl (n + 1) f) n none = gl n f := by
  funext j
  unfold va_up gl
  by_cases h : j = n
  · subst h
    rw [if_pos rfl, if_neg (by omega)]
  · rw [if_neg h]
    by_cases h2 : j < n
    · rw [if_pos (by omega), if_pos h2]
    · rw [if_neg (by omega), if_neg h2]
theorem gl_cpy {n cap : Nat} {f : Nat → Nat} (h : n ≤ cap) : va_cpy (gl n f) (fun _ => none) 0 0 cap = gl n f := by
  funext j
  unfold va_cpy gl
  by_cases h1 : j < n
  · rw [if_pos (by omega), show 0 + (j - 0) = j by omega, if_pos h1]
  · rw [if_neg h1]
    by_cases h2 : 0 ≤ j ∧ j < 0 + cap
    · rw [if_pos h2, show 0 + (j - 0) = j by omega, if_neg h1]
    · rw [if_neg h2]
theorem gl_ext {n : Nat} {f g : Nat → Nat} (h : ∀ j, j < n → f j = g j) : gl n f = gl n g := by
  funext j
  unfold gl
  by_cases h1 : j < n
  · rw [if_pos h1, if_pos h1, h j h1]
  · rw [if_neg h1, if_neg h1]
abbrev eO (cA : Nat → ClassId) (cap : Nat) (g : Nat → Option Nat) : va_E := .inl (cA 2, cap, .inr (.inr (.inr (.inr g))))
abbrev eL (mc : Int) (ea sz : Nat) : va_E := .inr (8, [.int (iI mc), .ref ea, .int (iI (sz : Int))])
/-- a list: its object, its array -/
def LiS (D : va_G) (cA : Nat → ClassId) (a : Nat) (mc : Int) (ea sz cap : Nat) (f : Nat → Nat) (H : Heap) : Prop := va_at D CL (a, eL mc ea sz) H ∧ va_at D CL (ea, eO cA cap (gl sz f)) H ∧ ea ≠ a ∧ sz ≤ cap ∧ cap ≤ 200
def isO (D : va_G) (ci v : Nat) (H : Heap) : Prop := ∃ cell : Cell, H[v]? = some cell ∧ cell.vm.isStatics = false ∧ cell.cls = D.1 ci
theorem isO.of {D : va_G} {ci v : Nat} {fs : List Value} {H : Heap} (h : va_at D CL (v, .inr (ci, fs)) H) : isO D ci v H := by
  obtain ⟨r, -, cell, h1, h2, h3, -⟩ := h
  exact ⟨cell, h1, by rw [h3]; rfl, h2⟩
theorem isO.kept {D : va_G} {ci v : Nat} {H H1 : Heap} (h : isO D ci v H) (hq : H1[v]? = H[v]?) : isO D ci v H1 := by
  obtain ⟨cell, h1, h2⟩ := h
  exact ⟨cell, by rw [hq]; exact h1, h2⟩
theorem isO.lt {D : va_G} {ci v : Nat} {H : Heap} (h : isO D ci v H) : v < H.size := by
  obtain ⟨cell, h1, -⟩ := h
  exact (Array.getElem?_eq_some_iff.mp h1).1
theorem cast_in : ∀ (ci : Nat) (q : vw_C), CL[ci]? = some q → Cond.castable q.1 "java/lang/Object" ∈ lw_tbl
  | 0, q, h => by cases h; exact q1282
  | 1, q, h => by cases h; exact q1277
  | 2, q, h => by cases h; exact q1283
  | 3, q, h => by cases h; exact q1284
  | 4, q, h => by cases h; exact q1286
  | 5, q, h => by cases h; exact q1287
  | 6, q, h => by cases h; exact q1288
  | 7, q, h => by cases h; exact q1290
  | 8, q, h => by cases h; exact q1278
  | 9, q, h => by cases h; exact q1291
  | 10, q, h => by cases h; exact q1285
  | 11, q, h => by cases h; exact q1279
  | n + 12, q, h => by simp at h
theorem anyOf {D : va_G} {cA : Nat → ClassId} {s : State} {H : Heap} {ci v : Nat} (hK : Kx D cA s) (hc : ci < 12) (h : isO D ci v H) : va_Any "java/lang/Object" s H v := by
  obtain ⟨cell, h1, h2, h3⟩ := h
  obtain ⟨q, hq⟩ : ∃ q, CL[ci]? = some q := by
    match ci, hc with
    | 0, _ => exact ⟨_, rfl⟩
    | 1, _ => exact ⟨_, rfl⟩
    | 2, _ => exact ⟨_, rfl⟩
    | 3, _ => exact ⟨_, rfl⟩
    | 4, _ => exact ⟨_, rfl⟩
    | 5, _ => exact ⟨_, rfl⟩
    | 6, _ => exact ⟨_, rfl⟩
    | 7, _ => exact ⟨_, rfl⟩
    | 8, _ => exact ⟨_, rfl⟩
    | 9, _ => exact ⟨_, rfl⟩
    | 10, _ => exact ⟨_, rfl⟩
    | 11, _ => exact ⟨_, rfl⟩
  obtain ⟨-, hfc, kC, hkC, -⟩ := hK.1.1 ci q hq
  refine ⟨cell, h1, h2, ⟨kC, by rw [h3]; exact hkC⟩, fun comp hcomp => ?_⟩
  rw [h3]
  exact vb_asgC (hK.2.2.2 _ (cast_in ci q hq) (Or.inr (Or.inl ⟨_, _, rfl⟩))) comp _ hcomp hfc
theorem isO.recv {D : va_G} {cA : Nat → ClassId} {s : State} {H : Heap} {ci v : Nat} {q : vw_C} (hK : Kx D cA s) (hc : CL[ci]? = some q) (h : isO D ci v H) : ∃ cell : Cell, H[v]? = some cell ∧ cell.vm.isStatics = false ∧ s.vm.findClass q.1 = some cell.cls := by
  obtain ⟨cell, h1, h2, h3⟩ := h
  exact ⟨cell, h1, h2, by rw [h3]; exact (hK.1.1 ci q hc).2.1⟩
/-- an object is no array; objects of two classes are two -/
theorem obj_ne_arr {D : va_G} {cA : Nat → ClassId} {s : State} {H : Heap} {a b ci t : Nat} {fs : List Value} {ty : FieldType} {cB : ClassId} {x : vp_A} (hK : Kx D cA s) (ht : (KT cA)[t]? = some (cB, ty)) (ha : va_at D CL (a, .inr (ci, fs)) H) (hb : va_at D CL (b, .inl (cB, x)) H) : a ≠ b := by
  intro e
  subst e
  obtain ⟨r, hr, cell, h1, h2, -⟩ := ha
  obtain ⟨-, -, kC, hkC, hkind⟩ := hK.1.1 ci r hr
  have h3 := (hK.1.2 t _ ht).1 0 (fun _ => .null)
  obtain ⟨-, k, hk, comp, hkk⟩ := h3
  have hb : H[a]? = some (vp_cell cB x) := hb
  have e1 : cell = vp_cell cB x := Option.some.inj (h1.symm.trans hb)
  have e2 : (vp_cell cB x).cls = cB := by
    obtain ⟨n, y⟩ := x
    rcases y with f | f | f | f | f <;> rfl
  have e3 : D.1 ci = cB := by rw [← h2, e1, e2]
  have e4 : s.vm.classes[D.1 ci]? = some k := by rw [e3]; exact hk
  have e5 : kC = k := Option.some.inj (hkC.symm.trans e4)
  rw [e5, hkk] at hkind
  cases hkind
