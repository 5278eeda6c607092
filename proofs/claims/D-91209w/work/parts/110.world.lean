set_option maxRecDepth 100000
/-! the world: classes, array classes, cells by what they hold -/
abbrev CL : List vw_C := [(RX2, TX2, 38), (RX1, TX1, 7), (RX3, TX3, 2), (RX4, TX4, 6), (RX5, TX5, 2), (RX6, TX6, 6), (RX7, TX7, 9), (RX8, TX8, 3), (RJ2, TJ2, 3), (RJ17, TJ17, 1), (RJ18, TJ18, 6), (RJ6, TJ6, 6)]
abbrev KT (cA : Nat → ClassId) : List (ClassId × FieldType) := [(cA 0, .int), (cA 1, .boolean), (cA 2, .object "java/lang/Object"), (cA 3, .long)]
def nwk (w : Cond) : Prop := (∃ a i b n d h, w = .fieldLinkNest a i b n d h) ∨ (∃ C T, w = .castable C T) ∨ (∃ x, w = .declares x)
/-- what is known of the machine's tables all through the run: classes, array classes, the words that do not ride in lw_all -/
def Kx (D : va_G) (cA : Nat → ClassId) (U : State) : Prop := va_K D CL (KT cA) U ∧ va_AO "java/lang/Object" U ∧ (∃ mi, va_Mi "[Ljava/lang/Object;" mi U) ∧ ∀ w ∈ lw_tbl, nwk w → va_Nw w U
theorem Kx.k {D : va_G} {cA : Nat → ClassId} {U : State} (h : Kx D cA U) : va_K D CL (KT cA) U := h.1
theorem Kx.moved {D : va_G} {cA : Nat → ClassId} {s U : State} (hW : s.WarmedH U.vm) (h : Kx D cA s) : Kx D cA U := by
  obtain ⟨h1, h2, ⟨mi, h3⟩, h4⟩ := h
  refine ⟨va_K.moved hW.alike h1, va_AO.moved hW.alike h2, ⟨mi, va_Mi.moved hW.alike h3⟩, fun w hw hn => ?_⟩
  have q := h4 w hw hn
  rcases hn with ⟨a, i, b, n, d, h, rfl⟩ | ⟨C, T, rfl⟩ | ⟨x, rfl⟩
  · exact va_Nw.warmF hW q
  · exact va_Nw.warmC hW q
  · exact va_Nw.warmD hW q
theorem Kx.blind {D : va_G} {cA : Nat → ClassId} {U : State} {g : JFrame} {mk : MethodId} {a : Array Value} (h : Kx D cA U) : Kx D cA (U.calling g mk a) := by
  obtain ⟨h1, h2, ⟨mi, h3⟩, h4⟩ := h
  refine ⟨va_K.moved (u := U) (Vm.Alike.refl U.vm) h1, va_AO.moved (u := U) (Vm.Alike.refl U.vm) h2, ⟨mi, va_Mi.moved (u := U) (Vm.Alike.refl U.vm) h3⟩, fun w hw hn => ?_⟩
  have q := h4 w hw hn
  rcases hn with ⟨a, i, b, n, d, h, rfl⟩ | ⟨C, T, rfl⟩ | ⟨x, rfl⟩
  · exact va_Nw.same rfl (u := U) rfl q
  · exact va_Nw.same rfl (u := U) rfl q
  · exact va_Nw.same rfl (u := U) rfl q
/-- the start of a contract: its arguments, what is known of the tables, what the heap holds -/
def Pk (D : va_G) (cA : Nat → ClassId) (av : List Value) (B : Heap → Prop) : Array Value → State → Prop := fun v U => v = av.toArray ∧ Kx D cA U ∧ B U.heap
/-- the end of a contract that changes the heap: its outcome and heap, nothing outside of A has changed -/
def Qk (post : Outcome → Heap → Prop) (A : Nat → Prop) : Array Value → State → Outcome → State → Prop := fun _ st o t => post o t.heap ∧ va_F A st t
theorem Pk.blind {D : va_G} {cA : Nat → ClassId} {av : List Value} {B : Heap → Prop} : FrameBlind (Pk D cA av B) := fun a U g mk h => ⟨h.1, h.2.1.blind, h.2.2⟩
theorem va_P1 {D : va_G} {cl : List vw_C} {q : Nat × va_E} {H : Heap} (h : va_at D cl q H) : va_P D cl [q] H := by
  intro k x hk
  match k, hk with
  | 0, hk => cases hk; exact h
  | k + 1, hk => simp at hk
theorem preV {D : va_G} {cA : Nat → ClassId} {s : State} {H : Heap} {b ci : Nat} {q : vw_C} {fs : List Value} {As : List Value} {B : Heap → Prop} (hK : Kx D cA s) (hP : va_at D CL (b, .inr (ci, fs)) H) (hc : CL[ci]? = some q) (hB : B H) : PreV s H q.1 b (Pk D cA (.ref b :: As) B) As :=
  ⟨Pk.blind, va_recv hK.1 (va_P1 hP) hc (q0 := 0) rfl, fun U hU hW => ⟨rfl, hK.moved hW, by rw [hU]; exact hB⟩⟩
theorem preS {D : va_G} {cA : Nat → ClassId} {s : State} {H : Heap} {As : List Value} {B : Heap → Prop} (hK : Kx D cA s) (hB : B H) : PreS s H (Pk D cA As B) As :=
  ⟨Pk.blind, fun U hU hW => ⟨rfl, hK.moved hW, by rw [hU]; exact hB⟩⟩
theorem va_S.keep {A : Nat → Prop} {H0 H H1 : Heap} {locs L : List Loc} (h : va_S A H0 H locs) (hz : H.size ≤ H1.size) (hq : ∀ q, q < H.size → ¬ A q → H1[q]? = H[q]?) (hL : ∀ l ∈ L, A l.base) : va_S A H0 H1 (locs ++ L) := by
  refine ⟨Nat.le_trans h.1 hz, fun q h1 h2 => (hq q (Nat.lt_of_lt_of_le h1 h.1) h2).trans (h.2.1 q h1 h2), fun x hx => ?_⟩
  rcases List.mem_append.mp hx with q | q
  · exact h.2.2 x q
  · exact hL x q
theorem va_S.grow {A : Nat → Prop} {H0 H H1 : Heap} {locs : List Loc} (h : va_S A H0 H locs) (hz : H.size ≤ H1.size) (hq : ∀ q, q < H.size → H1[q]? = H[q]?) : va_S A H0 H1 locs :=
  ⟨Nat.le_trans h.1 hz, fun q h1 h2 => (hq q (Nat.lt_of_lt_of_le h1 h.1)).trans (h.2.1 q h1 h2), h.2.2⟩
theorem va_at.ne {D : va_G} {cl : List vw_C} {a b : Nat} {ea eb : va_E} {H : Heap} (ha : va_at D cl (a, ea) H) (hb : va_at D cl (b, eb) H) (h : a ≠ b) : a ≠ b := h
section HR
variable {p : Program} {l : Launch} {e : Env} {R : Room} {s : State} {m : MethodId} {args : Array Value} {below : List Frame} {meth : Method} {c : Code} {H : Heap} {locs : List Loc} {cells slots : Nat} {Q : State → Prop} {cc : ByteArray} {pc : Nat} {ls : Array Slot} {rest : List Value} {D : va_G} {cA : Nat → ClassId} {A : Nat → Prop} {a : Nat} {H0 : Heap}
theorem h_get (hx : p.tables.exec = Jvm.exec) (hb : c.code = cc) {own ref C : String} {T : u_T} {N ci index : Nat} {Ts : List Cond} (hts : ∀ w ∈ Ts, w.before args s = true) (hin : ∀ w ∈ u_ws C T N, w ∈ Ts) (hown : s.vm.findClass own = some m.cls) (hK : Kx D cA s) {fs : List Value} (hP : va_at D CL (a, .inr (ci, fs)) H) (hc : CL[ci]? = some (C, T, N)) (k : Nat) (hk : k < N) (hlink : (Cond.fieldLink own index ref (T k).2.1 (T k).2.2.1).before args s = true) (hsame : (T k).1 = ref) {v : Value} (hv : fs[k]? = some v) (hdg : decode cc pc = .ok (.getfield index, 3)) (kk : W p l e R s m args below meth c H locs cells slots Q (F0 m (pc + 3) ls (v :: rest))) : W p l e R s m args below meth c H locs cells slots Q (F0 m pc ls (.ref a :: rest)) :=
  va_get hx hb hts hin hown hK.1 (va_P1 hP) 0 rfl hc k hk hlink (fun x h => by rw [← hsame]; exact h) hv hdg kk
theorem h_getN (hx : p.tables.exec = Jvm.exec) (hb : c.code = cc) {own ref C host : String} {T : u_T} {N ci index : Nat} {Ts : List Cond} (hts : ∀ w ∈ Ts, w.before args s = true) (hin : ∀ w ∈ u_ws C T N, w ∈ Ts) (hown : s.vm.findClass own = some m.cls) (hK : Kx D cA s) {fs : List Value} (hP : va_at D CL (a, .inr (ci, fs)) H) (hc : CL[ci]? = some (C, T, N)) (k : Nat) (hk : k < N) (hlink : Cond.fieldLinkNest own index ref (T k).2.1 (T k).2.2.1 host ∈ lw_tbl) (hsame : (T k).1 = ref) {v : Value} (hv : fs[k]? = some v) (hdg : decode cc pc = .ok (.getfield index, 3)) (kk : W p l e R s m args below meth c H locs cells slots Q (F0 m (pc + 3) ls (v :: rest))) : W p l e R s m args below meth c H locs cells slots Q (F0 m pc ls (.ref a :: rest)) :=
  va_getN hx hb hts hin hown hK.1 (va_P1 hP) 0 rfl hc k hk (va_Nw.use rfl (hK.2.2.2 _ hlink (Or.inl ⟨_, _, _, _, _, _, rfl⟩))) (fun x h => by rw [← hsame]; exact h) hv hdg kk
theorem h_iald (hx : p.tables.exec = Jvm.exec) (hb : c.code = cc) (hK : Kx D cA s) {n : Nat} {g : Nat → Int} (hP : va_at D CL (a, .inl (cA 0, n, .inl (fun j => iI (g j)))) H) {z : Int} (j : Nat) (hz : z = (j : Int)) (hj : j < n) (hn : n < 2147483648) (hdg : decode cc pc = .ok (.iaload, 1)) (kk : W p l e R s m args below meth c H locs cells slots Q (F0 m (pc + 1) ls (.int (iI (g j)) :: rest))) : W p l e R s m args below meth c H locs cells slots Q (F0 m pc ls (.int (iI z) :: .ref a :: rest)) := by
  subst hz
  refine va_iald hx hb hK.1 (va_P1 hP) 0 0 rfl rfl (iI_in hj hn) hdg ?_
  rw [iI_clamp (by omega)]
  exact kk
theorem h_zald (hx : p.tables.exec = Jvm.exec) (hb : c.code = cc) (hK : Kx D cA s) {n : Nat} {g : Nat → Int} (hP : va_at D CL (a, .inl (cA 1, n, .inl (fun j => iI (g j)))) H) {z : Int} (j : Nat) (hz : z = (j : Int)) (hj : j < n) (hn : n < 2147483648) (hdg : decode cc pc = .ok (.baload, 1)) (kk : W p l e R s m args below meth c H locs cells slots Q (F0 m (pc + 1) ls (.int (iI (g j)) :: rest))) : W p l e R s m args below meth c H locs cells slots Q (F0 m pc ls (.int (iI z) :: .ref a :: rest)) := by
  subst hz
  refine va_zald hx hb hK.1 (va_P1 hP) 0 1 rfl rfl (iI_in hj hn) hdg ?_
  rw [iI_clamp (by omega)]
  exact kk
theorem h_aldq (hx : p.tables.exec = Jvm.exec) (hb : c.code = cc) (hK : Kx D cA s) {n : Nat} {g : Nat → Option Nat} (hP : va_at D CL (a, .inl (cA 2, n, .inr (.inr (.inr (.inr g))))) H) {z : Int} (j : Nat) (hz : z = (j : Int)) (hj : j < n) (hn : n < 2147483648) (hdg : decode cc pc = .ok (.aaload, 1)) (kk : W p l e R s m args below meth c H locs cells slots Q (F0 m (pc + 1) ls (va_rf (g j) :: rest))) : W p l e R s m args below meth c H locs cells slots Q (F0 m pc ls (.int (iI z) :: .ref a :: rest)) := by
  subst hz
  refine va_aldq hx hb hK.1 (va_P1 hP) 0 2 rfl rfl (iI_in hj hn) hdg ?_
  rw [iI_clamp (by omega)]
  exact kk
theorem h_lald (hx : p.tables.exec = Jvm.exec) (hb : c.code = cc) (hK : Kx D cA s) {n : Nat} {g : Nat → Int64} (hP : va_at D CL (a, .inl (cA 3, n, .inr (.inl g))) H) {z : Int} (j : Nat) (hz : z = (j : Int)) (hj : j < n) (hn : n < 2147483648) (hdg : decode cc pc = .ok (.laload, 1)) (kk : W p l e R s m args below meth c H locs cells slots Q (F0 m (pc + 1) ls (.long (g j) :: rest))) : W p l e R s m args below meth c H locs cells slots Q (F0 m pc ls (.int (iI z) :: .ref a :: rest)) := by
  subst hz
  refine va_lald hx hb hK.1 (va_P1 hP) 0 3 rfl rfl (iI_in hj hn) hdg ?_
  rw [iI_clamp (by omega)]
  exact kk
theorem h_alen (hx : p.tables.exec = Jvm.exec) (hb : c.code = cc) (hK : Kx D cA s) (t0 : Nat) {cB : ClassId} {ty : FieldType} (ht : (KT cA)[t0]? = some (cB, ty)) {n : Nat} {y : (Nat → Int32) ⊕ (Nat → Int64) ⊕ (Nat → UInt32) ⊕ (Nat → UInt64) ⊕ (Nat → Option Nat)} (hP : va_at D CL (a, .inl (cB, n, y)) H) (hdg : decode cc pc = .ok (.arraylength, 1)) (kk : W p l e R s m args below meth c H locs cells slots Q (F0 m (pc + 1) ls (.int (iI (n : Int)) :: rest))) : W p l e R s m args below meth c H locs cells slots Q (F0 m pc ls (.ref a :: rest)) :=
  va_alen hx hb hK.1 (va_P1 hP) 0 t0 rfl ht (iI_nat n).symm hdg kk
theorem h_put (hx : p.tables.exec = Jvm.exec) (hb : c.code = cc) {own ref C : String} {T : u_T} {N ci index : Nat} {Ts : List Cond} (hts : ∀ w ∈ Ts, w.before args s = true) (hin : ∀ w ∈ u_ws C T N, w ∈ Ts) (ty0 : Nat → FieldType) (hty : ∀ k, k < N → parseFieldDescriptor (T k).2.2.1 = some (ty0 k)) (hnm : ∀ a, a < N → ∀ b, b < N → a ≠ b → (T a).2.1 ≠ (T b).2.1) (hown : s.vm.findClass own = some m.cls) (hK : Kx D cA s) {fs : List Value} (hP : va_at D CL (a, .inr (ci, fs)) H) (hS0 : va_S A H0 H locs) (hA : A a) (hc : CL[ci]? = some (C, T, N)) (k : Nat) (hk : k < N) (hlink : (Cond.fieldLink own index ref (T k).2.1 (T k).2.2.1).before args s = true) (hsame : (T k).1 = ref) (hfin : (T k).2.2.2 = false) {ty : FieldType} {v : Value} (hd : parseFieldDescriptor (T k).2.2.1 = some ty) (hn : narrow ty v = v) (hfit : fits ty v = true) (hl : k < fs.length)
    (hdg : decode cc pc = .ok (.putfield index, 3)) (kk : ∀ (H1 : Heap) (locs1 : List Loc), va_at D CL (a, .inr (ci, fs.set k v)) H1 → (∀ q, q ≠ a → H1[q]? = H[q]?) → H1.size = H.size → va_S A H0 H1 locs1 → W p l e R s m args below meth c  H1 locs1 cells slots Q (F0 m (pc + 3) ls rest)) : W p l e R s m args below meth c H locs cells slots Q (F0 m pc ls (v :: .ref a :: rest)) := by
  have hap := va_apart (own := own) hts hin ty0 hty hnm hK.1 hc
  obtain ⟨r, h1, cell, q1, q2, q3, q4⟩ := hP
  have hr : r = (C, T, N) := Option.some.inj (h1.symm.trans hc)
  subst hr
  obtain ⟨hS, hfc, kC, hkC, hkind⟩ := hK.1.1 ci _ hc
  obtain ⟨cf, kf, fi, f, hi, hsl⟩ := hS k hk
  have hlay := hts _ (hin _ (u_in_lay hk))
  unfold u_lay at hlay
  have hst := (u_facts hfc hkC (u_lays hts hin hk) hi).1
  rw [if_neg (by rw [hfin]; decide)] at hlay
  have h6 := u_store hfc hkC hkind hlay hi hd hn hfit
  refine W.putK hx hb (f := f) ⟨hown, hlink, ⟨_, _, _, (by rw [← hsame]; exact hi)⟩, hst⟩ (by rw [q2]; exact h6) q1 q3 (by rw [hsl]; exact k2_hasslot (q4 k hk)) rfl rfl hdg fun H' e1 e2 e3 => ?_
  rw [hsl] at e1 ⊢
  exact kk H' _ ⟨_, hc, t_OB.to (V := updV (vp_V fs) k v) ⟨_, e1, q2, q3, t_set q4 hap hk v⟩ (fun j _ => vp_updV_set hl v j)⟩ e3 e2 (hS0.put e2 e3 hA)
theorem h_putN (hx : p.tables.exec = Jvm.exec) (hb : c.code = cc) {own ref C host : String} {T : u_T} {N ci index : Nat} {Ts : List Cond} (hts : ∀ w ∈ Ts, w.before args s = true) (hin : ∀ w ∈ u_ws C T N, w ∈ Ts) (ty0 : Nat → FieldType) (hty : ∀ k, k < N → parseFieldDescriptor (T k).2.2.1 = some (ty0 k)) (hnm : ∀ a, a < N → ∀ b, b < N → a ≠ b → (T a).2.1 ≠ (T b).2.1) (hown : s.vm.findClass own = some m.cls) (hK : Kx D cA s) {fs : List Value} (hP : va_at D CL (a, .inr (ci, fs)) H) (hS0 : va_S A H0 H locs) (hA : A a) (hc : CL[ci]? = some (C, T, N)) (k : Nat) (hk : k < N) (hlink : Cond.fieldLinkNest own index ref (T k).2.1 (T k).2.2.1 host ∈ lw_tbl) (hsame : (T k).1 = ref) (hfin : (T k).2.2.2 = false) {ty : FieldType} {v : Value} (hd : parseFieldDescriptor (T k).2.2.1 = some ty) (hn : narrow ty v = v) (hfit : fits ty v = true) (hl : k < fs.length)
    (hdg : decode cc pc = .ok (.putfield index, 3)) (kk : ∀ (H1 : Heap) (locs1 : List Loc), va_at D CL (a, .inr (ci, fs.set k v)) H1 → (∀ q, q ≠ a → H1[q]? = H[q]?) → H1.size = H.size → va_S A H0 H1 locs1 → W p l e R s m args below meth c  H1 locs1 cells slots Q (F0 m (pc + 3) ls rest)) : W p l e R s m args below meth c H locs cells slots Q (F0 m pc ls (v :: .ref a :: rest)) := by
  have hap := va_apart (own := own) hts hin ty0 hty hnm hK.1 hc
  obtain ⟨r, h1, cell, q1, q2, q3, q4⟩ := hP
  have hr : r = (C, T, N) := Option.some.inj (h1.symm.trans hc)
  subst hr
  obtain ⟨hS, hfc, kC, hkC, hkind⟩ := hK.1.1 ci _ hc
  obtain ⟨cf, kf, fi, f, hi, hsl⟩ := hS k hk
  have hlay := hts _ (hin _ (u_in_lay hk))
  unfold u_lay at hlay
  have hst := (u_facts hfc hkC (u_lays hts hin hk) hi).1
  rw [if_neg (by rw [hfin]; decide)] at hlay
  have h6 := u_store hfc hkC hkind hlay hi hd hn hfit
  refine va_WputK hx hb (f := f) hown (va_Nw.use rfl (hK.2.2.2 _ hlink (Or.inl ⟨_, _, _, _, _, _, rfl⟩))) (by rw [← hsame]; exact hi) hst (by rw [q2]; exact h6) q1 q3 (by rw [hsl]; exact k2_hasslot (q4 k hk)) rfl rfl hdg fun H' e1 e2 e3 => ?_
  rw [hsl] at e1 ⊢
  exact kk H' _ ⟨_, hc, t_OB.to (V := updV (vp_V fs) k v) ⟨_, e1, q2, q3, t_set q4 hap hk v⟩ (fun j _ => vp_updV_set hl v j)⟩ e3 e2 (hS0.put e2 e3 hA)
theorem h_putF (hx : p.tables.exec = Jvm.exec) (hb : c.code = cc) {own ref C : String} {T : u_T} {N ci index : Nat} {Ts : List Cond} (hts : ∀ w ∈ Ts, w.before args s = true) (hin : ∀ w ∈ u_ws C T N, w ∈ Ts) (ty0 : Nat → FieldType) (hty : ∀ k, k < N → parseFieldDescriptor (T k).2.2.1 = some (ty0 k)) (hnm : ∀ a, a < N → ∀ b, b < N → a ≠ b → (T a).2.1 ≠ (T b).2.1) (hown : s.vm.findClass own = some m.cls) (hK : Kx D cA s) {fs : List Value} (hP : va_at D CL (a, .inr (ci, fs)) H) (hS0 : va_S A H0 H locs) (hA : A a) (hc : CL[ci]? = some (C, T, N)) (k : Nat) (hk : k < N) (hlink : (Cond.fieldLink own index ref (T k).2.1 (T k).2.2.1).before args s = true) (hsame : (T k).1 = ref) (hfin : (T k).2.2.2 = true) (hin2 : meth.name = "<init>") (hdecl : (T k).1 = own) {ty : FieldType} {v : Value} (hd : parseFieldDescriptor (T k).2.2.1 = some ty) (hn : narrow ty v = v) (hfit : fits ty v = true) (hl : k < fs.length)
    (hdg : decode cc pc = .ok (.putfield index, 3)) (kk : ∀ (H1 : Heap) (locs1 : List Loc), va_at D CL (a, .inr (ci, fs.set k v)) H1 → (∀ q, q ≠ a → H1[q]? = H[q]?) → H1.size = H.size → va_S A H0 H1 locs1 → W p l e R s m args below meth c  H1 locs1 cells slots Q (F0 m (pc + 3) ls rest)) : W p l e R s m args below meth c H locs cells slots Q (F0 m pc ls (v :: .ref a :: rest)) := by
  have hap := va_apart (own := own) hts hin ty0 hty hnm hK.1 hc
  obtain ⟨r, h1, cell, q1, q2, q3, q4⟩ := hP
  have hr : r = (C, T, N) := Option.some.inj (h1.symm.trans hc)
  subst hr
  obtain ⟨hS, hfc, kC, hkC, hkind⟩ := hK.1.1 ci _ hc
  obtain ⟨cf, kf, fi, f, hi, hsl⟩ := hS k hk
  have hlay := hts _ (hin _ (u_in_lay hk))
  unfold u_lay at hlay
  have hst := (u_facts hfc hkC (u_lays hts hin hk) hi).1
  rw [if_pos hfin] at hlay
  have hcf : m.cls = cf := by
    obtain ⟨_, _, c', _, _, _, -, -, hf', -, -, -, hown2, -⟩ := Cond.laysFinal_spec hlay
    have e1 : c' = cf := by have := hi.symm.trans hf'; simp at this; exact this.1.symm
    rw [hdecl] at hown2
    rw [← e1]; exact Option.some.inj (hown.symm.trans hown2)
  have h6 := u_fits hfc hkC hkind (Or.inr hlay) hi hd hn hfit
  refine W.putFinK hx hb hown hlink (by rw [← hsame]; exact hi) hst hcf hin2 (by rw [q2]; exact h6) q1 q3 (by rw [hsl]; exact k2_hasslot (q4 k hk)) rfl rfl hdg fun H' e1 e2 e3 => ?_
  rw [hsl] at e1 ⊢
  exact kk H' _ ⟨_, hc, t_OB.to (V := updV (vp_V fs) k v) ⟨_, e1, q2, q3, t_set q4 hap hk v⟩ (fun j _ => vp_updV_set hl v j)⟩ e3 e2 (hS0.put e2 e3 hA)
theorem h_iast (hx : p.tables.exec = Jvm.exec) (hb : c.code = cc) (hK : Kx D cA s) {n : Nat} {g : Nat → Int} (hP : va_at D CL (a, .inl (cA 0, n, .inl (fun j => iI (g j)))) H) (hS : va_S A H0 H locs) (hA : A a) {z v : Int} (j : Nat) (hz : z = (j : Int)) (hj : j < n) (hn : n < 2147483648) (hdg : decode cc pc = .ok (.iastore, 1))
    (kk : ∀ (H1 : Heap) (locs1 : List Loc), va_at D CL (a, .inl (cA 0, n, .inl (fun i => iI (va_up g j v i)))) H1 → (∀ q, q ≠ a → H1[q]? = H[q]?) → H1.size = H.size → va_S A H0 H1 locs1 → W p l e R s m args below meth c  H1 locs1 cells slots Q (F0 m (pc + 1) ls rest)) : W p l e R s m args below meth c H locs cells slots Q (F0 m pc ls (.int (iI v) :: .int (iI z) :: .ref a :: rest)) := by
  subst hz
  refine W.iast hx hb hP ((hK.1.2 0 _ rfl).1 n (fun j => .int (iI (g j)))) (fun q => by cases q) (by show ¬ (_ < 0 ∨ (arrV _ _ _).slots.size ≤ _); rw [arrV_size]; exact iI_in hj hn) rfl rfl hdg fun H1 e1 z1 oq => ?_
  refine kk H1 _ ?_ oq z1 (hS.put z1 oq hA)
  show H1[a]? = some (vp_cell _ _)
  rw [e1, vp_cell_i, vp_cell_i, arrV_store, iI_clamp (by omega)]
  congr 2
  funext q
  by_cases hq : q = j
  · subst hq
    simp [updV, va_up]
  · simp [updV, va_up, hq]
theorem h_zast (hx : p.tables.exec = Jvm.exec) (hb : c.code = cc) (hK : Kx D cA s) {n : Nat} {g : Nat → Int} (hP : va_at D CL (a, .inl (cA 1, n, .inl (fun j => iI (g j)))) H) (hS : va_S A H0 H locs) (hA : A a) {z v : Int} (hv : v = 0 ∨ v = 1) (j : Nat) (hz : z = (j : Int)) (hj : j < n) (hn : n < 2147483648) (hdg : decode cc pc = .ok (.bastore, 1))
    (kk : ∀ (H1 : Heap) (locs1 : List Loc), va_at D CL (a, .inl (cA 1, n, .inl (fun i => iI (va_up g j v i)))) H1 → (∀ q, q ≠ a → H1[q]? = H[q]?) → H1.size = H.size → va_S A H0 H1 locs1 → W p l e R s m args below meth c  H1 locs1 cells slots Q (F0 m (pc + 1) ls rest)) : W p l e R s m args below meth c H locs cells slots Q (F0 m pc ls (.int (iI v) :: .int (iI z) :: .ref a :: rest)) := by
  subst hz
  refine W.zast hx hb hP ((hK.1.2 1 _ rfl).1 n (fun j => .int (iI (g j)))) (fun q => by cases q) (by show ¬ (_ < 0 ∨ (arrV _ _ _).slots.size ≤ _); rw [arrV_size]; exact iI_in hj hn) rfl rfl hdg fun H1 e1 z1 oq => ?_
  refine kk H1 _ ?_ oq z1 (hS.put z1 oq hA)
  show H1[a]? = some (vp_cell _ _)
  rw [e1, vp_cell_i, vp_cell_i, arrV_store, iI_clamp (by omega)]
  congr 2
  funext q
  by_cases hq : q = j
  · subst hq
    rcases hv with rfl | rfl <;> simp [updV, va_up] <;> rfl
  · simp [updV, va_up, hq]
theorem h_last (hx : p.tables.exec = Jvm.exec) (hb : c.code = cc) (hK : Kx D cA s) {n : Nat} {g : Nat → Int64} (hP : va_at D CL (a, .inl (cA 3, n, .inr (.inl g))) H) (hS : va_S A H0 H locs) (hA : A a) {z : Int} {v : Int64} (j : Nat) (hz : z = (j : Int)) (hj : j < n) (hn : n < 2147483648) (hdg : decode cc pc = .ok (.lastore, 1))
    (kk : ∀ (H1 : Heap) (locs1 : List Loc), va_at D CL (a, .inl (cA 3, n, .inr (.inl (va_up g j v)))) H1 → (∀ q, q ≠ a → H1[q]? = H[q]?) → H1.size = H.size → va_S A H0 H1 locs1 → W p l e R s m args below meth c  H1 locs1 cells slots Q (F0 m (pc + 1) ls rest)) : W p l e R s m args below meth c H locs cells slots Q (F0 m pc ls (.long v :: .int (iI z) :: .ref a :: rest)) := by
  subst hz
  refine W.last hx hb hP ((hK.1.2 3 _ rfl).1 n (fun j => .long (g j))) (fun q => by cases q) (by show ¬ (_ < 0 ∨ (arrV _ _ _).slots.size ≤ _); rw [arrV_size]; exact iI_in hj hn) rfl rfl hdg fun H1 e1 z1 oq => ?_
  refine kk H1 _ ?_ oq z1 (hS.put z1 oq hA)
  show H1[a]? = some (vp_cell _ _)
  rw [e1, vp_cell_l, vp_cell_l, arrV_store, iI_clamp (by omega)]
  congr 2
  funext q
  by_cases hq : q = j
  · subst hq
    simp [updV, va_up]
  · simp [updV, va_up, hq]
/-- a reference is laid into an array of Objects: its class can be cast to Object -/
theorem h_astq (hx : p.tables.exec = Jvm.exec) (hb : c.code = cc) (hK : Kx D cA s) {n v : Nat} {g : Nat → Option Nat} (hP : va_at D CL (a, .inl (cA 2, n, .inr (.inr (.inr (.inr g))))) H) (hS : va_S A H0 H locs) (hA : A a) (hr : va_Any "java/lang/Object" s H v) {z : Int} (j : Nat) (hz : z = (j : Int)) (hj : j < n) (hn : n < 2147483648) (hdg : decode cc pc = .ok (.aastore, 1))
    (kk : ∀ (H1 : Heap) (locs1 : List Loc), va_at D CL (a, .inl (cA 2, n, .inr (.inr (.inr (.inr (va_up g j (some v))))))) H1 → (∀ q, q ≠ a → H1[q]? = H[q]?) → H1.size = H.size → va_S A H0 H1 locs1 → W p l e R s m args below meth c  H1 locs1 cells slots Q (F0 m (pc + 1) ls rest)) : W p l e R s m args below meth c H locs cells slots Q (F0 m pc ls (.ref v :: .int (iI z) :: .ref a :: rest)) := by
  subst hz
  obtain ⟨cellV, g1, g3, ⟨kC, hkC⟩, hasg⟩ := hr
  obtain ⟨kA, comp, k1, k2, k3, -⟩ := (hK.1.2 2 _ rfl).2
  obtain ⟨kE, hkE, -⟩ := Vm.findClass_spec k3
  have h0 : ¬ iI (j : Int) < 0 := fun q => (iI_in hj hn) (Or.inl q)
  refine W.aast hx hb hP (fun q h => by cases h) (fun h => by cases h) k1 k2 rfl hkE ⟨h0, by show _ < (arrV _ _ _).slots.size; rw [arrV_size, iI_clamp (by omega)]; exact hj⟩ g1 (fun q h => by rw [h] at g3; cases g3) hkC (hasg comp k3) rfl rfl hdg fun H1 e1 z1 oq => ?_
  refine kk H1 _ ?_ oq z1 (hS.put z1 oq hA)
  show H1[a]? = some (vp_cell _ _)
  rw [e1, vp_cell_q, vp_cell_q, arrV_store, iI_clamp (by omega)]
  congr 2
  funext q
  by_cases hq : q = j
  · subst hq
    simp [updV, va_up, va_rf]
  · simp [updV, va_up, hq]
theorem h_astqN (hx : p.tables.exec = Jvm.exec) (hb : c.code = cc) (hK : Kx D cA s) {n : Nat} {g : Nat → Option Nat} (hP : va_at D CL (a, .inl (cA 2, n, .inr (.inr (.inr (.inr g))))) H) (hS : va_S A H0 H locs) (hA : A a) {z : Int} (j : Nat) (hz : z = (j : Int)) (hj : j < n) (hn : n < 2147483648) (hdg : decode cc pc = .ok (.aastore, 1))
    (kk : ∀ (H1 : Heap) (locs1 : List Loc), va_at D CL (a, .inl (cA 2, n, .inr (.inr (.inr (.inr (va_up g j none)))))) H1 → (∀ q, q ≠ a → H1[q]? = H[q]?) → H1.size = H.size → va_S A H0 H1 locs1 → W p l e R s m args below meth c  H1 locs1 cells slots Q (F0 m (pc + 1) ls rest)) : W p l e R s m args below meth c H locs cells slots Q (F0 m pc ls (.null :: .int (iI z) :: .ref a :: rest)) := by
  subst hz
  refine va_WaastN (C := "java/lang/Object") hx hb hP ((hK.1.2 2 _ rfl).1 n (fun j => va_rf (g j))) (fun h => by cases h) (by show ¬ (_ < 0 ∨ (arrV _ _ _).slots.size ≤ _); rw [arrV_size]; exact iI_in hj hn) rfl rfl hdg fun H1 e1 z1 oq => ?_
  refine kk H1 _ ?_ oq z1 (hS.put z1 oq hA)
  show H1[a]? = some (vp_cell _ _)
  rw [e1, vp_cell_q, vp_cell_q, arrV_store, iI_clamp (by omega)]
  congr 2
  funext q
  by_cases hq : q = j
  · subst hq
    simp [updV, va_up, va_rf]
  · simp [updV, va_up, hq]
theorem h_new (hx : p.tables.exec = Jvm.exec) (hb : c.code = cc) {own C : String} {T : u_T} {N ci index : Nat} {Ts : List Cond} (hts : ∀ w ∈ Ts, w.before args s = true) (hin : ∀ w ∈ u_ws C T N, w ∈ Ts) (ty : Nat → FieldType) (hty : ∀ k, k < N → parseFieldDescriptor (T k).2.2.1 = some (ty k)) (hown : s.vm.findClass own = some m.cls) (hcl : (Cond.classLink own index C).before args s = true) (hinst : (Cond.instantiable C N).before args s = true) (hini : (Cond.initialized C).before args s = true)
    (hK : Kx D cA s) (hS : va_S A H0 H locs) (hc : CL[ci]? = some (C, T, N)) {fs : List Value} (hfs : ∀ j, j < N → defaultValue (ty j) = vp_V fs j) (hcells : cells + 1 ≤ R.cells) (hslots : slots + N ≤ R.slots) (hdg : decode cc pc = .ok (.new index, 3))
    (kk : ∀ (q : Nat) (H1 : Heap), q = H.size → va_at D CL (q, .inr (ci, fs)) H1 → (∀ x, x < H.size → H1[x]? = H[x]?) → H1.size = H.size + 1 → va_S A H0 H1 locs → W p l e R s m args below meth c  H1 locs (cells + 1) (slots + N) Q (F0 m (pc + 3) ls (.ref q :: rest))) : W p l e R s m args below meth c H locs cells slots Q (F0 m pc ls rest) := by
  have hKn := hK.1.1 ci _ hc
  refine W.newcK hx hb hown hcl hinst hini rfl hdg hcells hslots hKn.2.1 rfl fun H1 kC hkC e1 z1 o1 => ?_
  exact kk H.size H1 rfl ⟨_, hc, (u_born ty hts hin hKn hkC e1 hty).to hfs⟩ o1 z1 (hS.grow (by omega) o1)
theorem h_newaI (hx : p.tables.exec = Jvm.exec) (hb : c.code = cc) (harr : (Cond.arrayClass (newarray.typeOf .int)).before args s = true) (hK : Kx D cA s) (hS : va_S A H0 H locs) {z : Int} (N : Nat) (hz : z = (N : Int)) (hN : N ≤ 100000) (hcells : cells + 1 ≤ R.cells) (hslots : slots + N ≤ R.slots) (hdg : decode cc pc = .ok (.newarray .int, 2))
    (kk : ∀ (q : Nat) (H1 : Heap), q = H.size → va_at D CL (q, .inl (cA 0, N, .inl (fun _ => iI 0))) H1 → (∀ x, x < H.size → H1[x]? = H[x]?) → H1.size = H.size + 1 → va_S A H0 H1 locs → W p l e R s m args below meth c  H1 locs (cells + 1) (slots + N) Q (F0 m (pc + 2) ls (.ref q :: rest))) : W p l e R s m args below meth c H locs cells slots Q (F0 m pc ls (.int (iI z) :: rest)) := by
  subst hz
  refine va_newaK hx hb harr rfl hdg rfl (fun q => (iI_in (Nat.lt_succ_self N) (by omega)) (Or.inl q)) (iI_clamp (by omega)) (by show N * 4 ≤ _; omega) hcells hslots rfl fun H1 cB e1 z1 o1 hAr hNm => ?_
  have hcB : cB = cA 0 := Option.some.inj (hNm.symm.trans (hK.1.2 0 _ rfl).2)
  subst hcB
  refine kk H.size H1 rfl ?_ o1 z1 (hS.grow (by omega) o1)
  exact e1
theorem h_newaZ (hx : p.tables.exec = Jvm.exec) (hb : c.code = cc) (harr : (Cond.arrayClass (newarray.typeOf .boolean)).before args s = true) (hK : Kx D cA s) (hS : va_S A H0 H locs) {z : Int} (N : Nat) (hz : z = (N : Int)) (hN : N ≤ 100000) (hcells : cells + 1 ≤ R.cells) (hslots : slots + N ≤ R.slots) (hdg : decode cc pc = .ok (.newarray .boolean, 2))
    (kk : ∀ (q : Nat) (H1 : Heap), q = H.size → va_at D CL (q, .inl (cA 1, N, .inl (fun _ => iI 0))) H1 → (∀ x, x < H.size → H1[x]? = H[x]?) → H1.size = H.size + 1 → va_S A H0 H1 locs → W p l e R s m args below meth c  H1 locs (cells + 1) (slots + N) Q (F0 m (pc + 2) ls (.ref q :: rest))) : W p l e R s m args below meth c H locs cells slots Q (F0 m pc ls (.int (iI z) :: rest)) := by
  subst hz
  refine va_newaK hx hb harr rfl hdg rfl (fun q => (iI_in (Nat.lt_succ_self N) (by omega)) (Or.inl q)) (iI_clamp (by omega)) (by show N * 1 ≤ _; omega) hcells hslots rfl fun H1 cB e1 z1 o1 hAr hNm => ?_
  have hcB : cB = cA 1 := Option.some.inj (hNm.symm.trans (hK.1.2 1 _ rfl).2)
  subst hcB
  refine kk H.size H1 rfl ?_ o1 z1 (hS.grow (by omega) o1)
  exact e1
theorem h_newaJ (hx : p.tables.exec = Jvm.exec) (hb : c.code = cc) (harr : (Cond.arrayClass (newarray.typeOf .long)).before args s = true) (hK : Kx D cA s) (hS : va_S A H0 H locs) {z : Int} (N : Nat) (hz : z = (N : Int)) (hN : N ≤ 100000) (hcells : cells + 1 ≤ R.cells) (hslots : slots + N ≤ R.slots) (hdg : decode cc pc = .ok (.newarray .long, 2))
    (kk : ∀ (q : Nat) (H1 : Heap), q = H.size → va_at D CL (q, .inl (cA 3, N, .inr (.inl (fun _ => 0)))) H1 → (∀ x, x < H.size → H1[x]? = H[x]?) → H1.size = H.size + 1 → va_S A H0 H1 locs → W p l e R s m args below meth c  H1 locs (cells + 1) (slots + N) Q (F0 m (pc + 2) ls (.ref q :: rest))) : W p l e R s m args below meth c H locs cells slots Q (F0 m pc ls (.int (iI z) :: rest)) := by
  subst hz
  refine va_newaK hx hb harr rfl hdg rfl (fun q => (iI_in (Nat.lt_succ_self N) (by omega)) (Or.inl q)) (iI_clamp (by omega)) (by show N * 8 ≤ _; omega) hcells hslots rfl fun H1 cB e1 z1 o1 hAr hNm => ?_
  have hcB : cB = cA 3 := Option.some.inj (hNm.symm.trans (hK.1.2 3 _ rfl).2)
  subst hcB
  refine kk H.size H1 rfl ?_ o1 z1 (hS.grow (by omega) o1)
  exact e1
theorem h_newq (hx : p.tables.exec = Jvm.exec) (hb : c.code = cc) {own : String} {index : Nat} (hown : s.vm.findClass own = some m.cls) (hclink : (Cond.classLink own index "java/lang/Object").before args s = true) (hK : Kx D cA s) (hS : va_S A H0 H locs) {z : Int} (N : Nat) (hz : z = (N : Int)) (hN : N ≤ 100000) (hcells : cells + 1 ≤ R.cells) (hslots : slots + N ≤ R.slots) (hdg : decode cc pc = .ok (.anewarray index, 3))
    (kk : ∀ (q : Nat) (H1 : Heap), q = H.size → va_at D CL (q, .inl (cA 2, N, .inr (.inr (.inr (.inr (fun _ => none)))))) H1 → (∀ x, x < H.size → H1[x]? = H[x]?) → H1.size = H.size + 1 → va_S A H0 H1 locs → W p l e R s m args below meth c  H1 locs (cells + 1) (slots + N) Q (F0 m (pc + 3) ls (.ref q :: rest))) : W p l e R s m args below meth c H locs cells slots Q (F0 m pc ls (.int (iI z) :: rest)) := by
  subst hz
  refine W.anew hx hb hown hclink (va_AO.use hK.2.1) rfl hdg rfl (fun q => (iI_in (Nat.lt_succ_self N) (by omega)) (Or.inl q)) (by rw [iI_clamp (by omega)]; omega) hcells (by rw [iI_clamp (by omega)]; exact hslots) fun cB kA comp f1 f2 f3 f4 => ?_
  rw [iI_clamp (by omega)]
  obtain ⟨_, _, -, -, -, k4⟩ := (hK.1.2 2 _ rfl).2
  have hcB : cB = cA 2 := Option.some.inj (f1.symm.trans k4)
  subst hcB
  generalize hH1 : H.push ({ cls := cA 2, slots := Array.replicate N .null, vm := .none } : Cell) = H1
  have z1 : H1.size = H.size + 1 := by rw [← hH1, Array.size_push]
  have e1 : H1[H.size]? = some (arrV (cA 2) N (fun _ => .null)) := by rw [← hH1, Array.getElem?_push_size, ← arrV_new]
  have o1 : ∀ q : Nat, q < H.size → H1[q]? = H[q]? := fun q hq => by rw [← hH1, Array.getElem?_push, if_neg (Nat.ne_of_lt hq)]
  exact kk H.size H1 rfl e1 o1 z1 (hS.grow (by omega) o1)
/-- the end of a contract that answers an int -/
def Qi (post : Int → Heap → Prop) (A : Nat → Prop) : Array Value → State → Outcome → State → Prop := fun _ st o t => (∃ z, o = .returned (some (.int (iI z))) ∧ post z t.heap) ∧ va_F A st t
def Qn (post : Heap → Prop) (A : Nat → Prop) : Array Value → State → Outcome → State → Prop := fun _ st o t => (o = .returned none ∧ post t.heap) ∧ va_F A st t
def Qo (post : Nat → Heap → Prop) (A : Nat → Prop) : Array Value → State → Outcome → State → Prop := fun _ st o t => (∃ q, o = .returned (some (.ref q)) ∧ post q t.heap) ∧ va_F A st t
theorem va_S.call {A A1 : Nat → Prop} {H0 H : Heap} {locs L : List Loc} {free : Addr → Prop} {st t : State} (h : va_S A H0 H locs) (h0 : st.heap = H) (hF : va_F A1 st t) (hA : ∀ q, q < H.size → A1 q → A q) (hf : ∀ q, free q → A q) (hL : ∀ q ∈ L, free q.base) : va_S A H0 t.heap (locs ++ L) := by
  subst h0
  exact h.keep hF.1 (fun q h1 h2 => hF.2 q h1 (fun z => h2 (hA q h1 z))) (fun x hx => hf _ (hL x hx))
theorem rc_I {mc ms : Nat} {free : Addr → Prop} {post : Int → Heap → Prop} {A1 : Nat → Prop} {av : Array Value} {st0 : List Value} (hr : CallRun p l e R s m args below meth c H locs cells slots mc ms (F0 m pc ls st0) rest (Qi post A1 av) free) (hS : va_S A H0 H locs) (hA : ∀ q, q < H.size → A1 q → A q) (hf : ∀ q, free q → A q)
    (kk : ∀ (z : Int) (H1 : Heap) (locs1 : List Loc), post z H1 → va_S A H0 H1 locs1 → H.size ≤ H1.size → (∀ q, q < H.size → ¬ A1 q → H1[q]? = H[q]?) → W p l e R s m args below meth c  H1 locs1 (cells + mc) (slots + ms) Q (F0 m (pc + 3) ls (.int (iI z) :: rest))) : W p l e R s m args below meth c H locs cells slots Q (F0 m pc ls st0) := by
  refine rc_G hr (fun v st₀ t L h0 hq hL => ?_)
  obtain ⟨⟨z, hv, hp⟩, hF⟩ := hq
  cases hv
  exact kk z t.heap _ hp (hS.call h0 hF hA hf hL) (by rw [← h0]; exact hF.1) (fun q h1 h2 => by rw [← h0] at h1 ⊢; exact hF.2 q h1 h2)
theorem rc_N {mc ms : Nat} {free : Addr → Prop} {post : Heap → Prop} {A1 : Nat → Prop} {av : Array Value} {st0 : List Value} (hr : CallRun p l e R s m args below meth c H locs cells slots mc ms (F0 m pc ls st0) rest (Qn post A1 av) free) (hS : va_S A H0 H locs) (hA : ∀ q, q < H.size → A1 q → A q) (hf : ∀ q, free q → A q)
    (kk : ∀ (H1 : Heap) (locs1 : List Loc), post H1 → va_S A H0 H1 locs1 → H.size ≤ H1.size → (∀ q, q < H.size → ¬ A1 q → H1[q]? = H[q]?) → W p l e R s m args below meth c  H1 locs1 (cells + mc) (slots + ms) Q (F0 m (pc + 3) ls rest)) : W p l e R s m args below meth c H locs cells slots Q (F0 m pc ls st0) := by
  refine rc_G hr (fun v st₀ t L h0 hq hL => ?_)
  obtain ⟨⟨hv, hp⟩, hF⟩ := hq
  cases hv
  exact kk t.heap _ hp (hS.call h0 hF hA hf hL) (by rw [← h0]; exact hF.1) (fun q h1 h2 => by rw [← h0] at h1 ⊢; exact hF.2 q h1 h2)
theorem rc_O {mc ms : Nat} {free : Addr → Prop} {post : Nat → Heap → Prop} {A1 : Nat → Prop} {av : Array Value} {st0 : List Value} (hr : CallRun p l e R s m args below meth c H locs cells slots mc ms (F0 m pc ls st0) rest (Qo post A1 av) free) (hS : va_S A H0 H locs) (hA : ∀ q, q < H.size → A1 q → A q) (hf : ∀ q, free q → A q)
    (kk : ∀ (z : Nat) (H1 : Heap) (locs1 : List Loc), post z H1 → va_S A H0 H1 locs1 → H.size ≤ H1.size → (∀ q, q < H.size → ¬ A1 q → H1[q]? = H[q]?) → W p l e R s m args below meth c  H1 locs1 (cells + mc) (slots + ms) Q (F0 m (pc + 3) ls (.ref z :: rest))) : W p l e R s m args below meth c H locs cells slots Q (F0 m pc ls st0) := by
  refine rc_G hr (fun v st₀ t L h0 hq hL => ?_)
  obtain ⟨⟨z, hv, hp⟩, hF⟩ := hq
  cases hv
  exact kk z t.heap _ hp (hS.call h0 hF hA hf hL) (by rw [← h0]; exact hF.1) (fun q h1 h2 => by rw [← h0] at h1 ⊢; exact hF.2 q h1 h2)
end HR
