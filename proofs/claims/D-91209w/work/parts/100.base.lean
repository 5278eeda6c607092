set_option maxRecDepth 100000
/-! numbers: an Int as an Int32 -/
def iI (z : Int) : Int32 := Int32.ofInt z
def inR (z : Int) : Prop := -2147483648 ≤ z ∧ z ≤ 2147483647
theorem iI_add (a b : Int) : iI a + iI b = iI (a + b) := (Int32.ofInt_add a b).symm
theorem iI_sub (a b : Int) : iI a - iI b = iI (a - b) := (Int32.ofInt_sub a b).symm
theorem iI_mul (a b : Int) : iI a * iI b = iI (a * b) := (Int32.ofInt_mul a b).symm
theorem iI_neg (a : Int) : - iI a = iI (-a) := (Int32.ofInt_neg a).symm
theorem iI_toInt {z : Int} (h : inR z) : (iI z).toInt = z := Int32.toInt_ofInt_of_le (by have := h.1; omega) (by have := h.2; omega)
theorem iI_self (x : Int32) : iI x.toInt = x := Int32.ofInt_toInt x
theorem inR_of (x : Int32) : inR x.toInt := ⟨by have := x.le_toInt; omega, by have := x.toInt_lt; omega⟩
theorem iI_le {a b : Int} (ha : inR a) (hb : inR b) : iI a ≤ iI b ↔ a ≤ b := by
  rw [Int32.le_iff_toInt_le, iI_toInt ha, iI_toInt hb]
theorem iI_lt {a b : Int} (ha : inR a) (hb : inR b) : iI a < iI b ↔ a < b := by
  rw [Int32.lt_iff_toInt_lt, iI_toInt ha, iI_toInt hb]
theorem iI_eq {a b : Int} (ha : inR a) (hb : inR b) : iI a = iI b ↔ a = b := by
  rw [← Int32.toInt_inj, iI_toInt ha, iI_toInt hb]
theorem iI_nat (n : Nat) : iI (n : Int) = nI n := Int32.ofInt_eq_ofNat
theorem iI_clamp {n : Nat} (h : n < 2147483648) : (iI (n : Int)).toNatClampNeg = n := by rw [iI_nat]; exact nI_clamp (by omega)
theorem iI_in {j n : Nat} (h : j < n) (hn : n < 2147483648) : vp_in (iI (j : Int)) n := by rw [iI_nat]; exact vp_in_nI h (by omega)
theorem iI_0 : iI 0 = 0 := rfl
theorem iI_succ (k : Nat) : iI (k : Int) + Int32.ofInt 1 = iI ((k + 1 : Nat) : Int) := iI_add k 1
theorem inR_0 : inR 0 := by unfold inR; omega
theorem inR_nat {n : Nat} (h : n < 2147483648) : inR (n : Int) := by unfold inR; omega
theorem inR_i {z : Int} (h1 : -2147483648 ≤ z) (h2 : z ≤ 2147483647) : inR z := ⟨h1, h2⟩
/-- two indices: a function of functions changed at one place -/
def up2 {α : Type} (r : Nat → Nat → α) (k i : Nat) (z : α) : Nat → Nat → α := fun k' j => if k' = k ∧ j = i then z else r k' j
theorem up2_eq {α : Type} (r : Nat → Nat → α) (k i : Nat) (z : α) : up2 r k i z k i = z := by simp [up2]
theorem up2_ne {α : Type} {r : Nat → Nat → α} {k i : Nat} {z : α} {k' j : Nat} (h : k' ≠ k ∨ j ≠ i) : up2 r k i z k' j = r k' j := by
  unfold up2; rw [if_neg (by omega)]
theorem up2_row {α : Type} {r : Nat → Nat → α} {k i : Nat} {z : α} {k' : Nat} (h : k' ≠ k) : up2 r k i z k' = r k' := by
  funext j; exact up2_ne (Or.inl h)
theorem up2_self {α : Type} (r : Nat → Nat → α) (k i : Nat) (z : α) : up2 r k i z k = va_up (r k) i z := by
  funext j; unfold up2 va_up; by_cases h : j = i <;> simp [h]
section BR
variable {p : Program} {l : Launch} {e : Env} {R : Room} {s : State} {m : MethodId} {args : Array Value} {below : List Frame} {meth : Method} {c : Code} {H : Heap} {locs : List Loc} {cells slots : Nat} {Q : State → Prop} {cc : ByteArray} {pc : Nat} {ls : Array Slot} {rest : List Value}
theorem ri_iadd (hx : p.tables.exec = Jvm.exec) (hb : c.code = cc) {a b : Int} (hdg : decode cc pc = .ok (.iadd, 1)) (k : W p l e R s m args below meth c H locs cells slots Q (F0 m (pc + 1) ls (.int (iI (a + b)) :: rest))) : W p l e R s m args below meth c H locs cells slots Q (F0 m pc ls (.int (iI b) :: .int (iI a) :: rest)) :=
  lv_iadd hx hb hdg (by rw [iI_add]; exact k)
theorem ri_isub (hx : p.tables.exec = Jvm.exec) (hb : c.code = cc) {a b : Int} (hdg : decode cc pc = .ok (.isub, 1)) (k : W p l e R s m args below meth c H locs cells slots Q (F0 m (pc + 1) ls (.int (iI (a - b)) :: rest))) : W p l e R s m args below meth c H locs cells slots Q (F0 m pc ls (.int (iI b) :: .int (iI a) :: rest)) :=
  lv_isub hx hb hdg (by rw [iI_sub]; exact k)
theorem ri_imul (hx : p.tables.exec = Jvm.exec) (hb : c.code = cc) {a b : Int} (hdg : decode cc pc = .ok (.imul, 1)) (k : W p l e R s m args below meth c H locs cells slots Q (F0 m (pc + 1) ls (.int (iI (a * b)) :: rest))) : W p l e R s m args below meth c H locs cells slots Q (F0 m pc ls (.int (iI b) :: .int (iI a) :: rest)) :=
  lv_imul hx hb hdg (by rw [iI_mul]; exact k)
theorem ri_ineg (hx : p.tables.exec = Jvm.exec) (hb : c.code = cc) {a : Int} (hdg : decode cc pc = .ok (.ineg, 1)) (k : W p l e R s m args below meth c H locs cells slots Q (F0 m (pc + 1) ls (.int (iI (-a)) :: rest))) : W p l e R s m args below meth c H locs cells slots Q (F0 m pc ls (.int (iI a) :: rest)) :=
  lv_ineg hx hb hdg (by rw [iI_neg]; exact k)
theorem ri_top {a b : Int} (h : a = b) (k : W p l e R s m args below meth c H locs cells slots Q (F0 m pc ls (.int (iI b) :: rest))) : W p l e R s m args below meth c H locs cells slots Q (F0 m pc ls (.int (iI a) :: rest)) := h ▸ k
theorem ri_if_eq (hx : p.tables.exec = Jvm.exec) (hb : c.code = cc) {a : Int} {off : Int} {tgt : Nat} (ha : inR a) (hdg : decode cc pc = .ok (.ifCond .eq off, 3)) (ht : (pc : Int) + off = (tgt : Int)) (kt : a = 0 → W p l e R s m args below meth c H locs cells slots Q (F0 m tgt ls rest)) (kf : a ≠ 0 → W p l e R s m args below meth c H locs cells slots Q (F0 m (pc + 3) ls rest)) : W p l e R s m args below meth c H locs cells slots Q (F0 m pc ls (.int (iI a) :: rest)) := by
  have q := iI_eq ha inR_0
  rw [iI_0] at q
  exact lv_if_eq hx hb hdg ht (fun h => kt (q.mp h)) (fun h => kf (fun z => h (q.mpr z)))
theorem ri_if_ne (hx : p.tables.exec = Jvm.exec) (hb : c.code = cc) {a : Int} {off : Int} {tgt : Nat} (ha : inR a) (hdg : decode cc pc = .ok (.ifCond .ne off, 3)) (ht : (pc : Int) + off = (tgt : Int)) (kt : a ≠ 0 → W p l e R s m args below meth c H locs cells slots Q (F0 m tgt ls rest)) (kf : a = 0 → W p l e R s m args below meth c H locs cells slots Q (F0 m (pc + 3) ls rest)) : W p l e R s m args below meth c H locs cells slots Q (F0 m pc ls (.int (iI a) :: rest)) := by
  have q := iI_eq ha inR_0
  rw [iI_0] at q
  exact lv_if_ne hx hb hdg ht (fun h => kt (fun z => h (q.mpr z))) (fun h => kf (q.mp h))
theorem ri_if_lt (hx : p.tables.exec = Jvm.exec) (hb : c.code = cc) {a : Int} {off : Int} {tgt : Nat} (ha : inR a) (hdg : decode cc pc = .ok (.ifCond .lt off, 3)) (ht : (pc : Int) + off = (tgt : Int)) (kt : a < 0 → W p l e R s m args below meth c H locs cells slots Q (F0 m tgt ls rest)) (kf : 0 ≤ a → W p l e R s m args below meth c H locs cells slots Q (F0 m (pc + 3) ls rest)) : W p l e R s m args below meth c H locs cells slots Q (F0 m pc ls (.int (iI a) :: rest)) := by
  have q := iI_lt ha inR_0
  rw [iI_0] at q
  exact lv_if_lt hx hb hdg ht (fun h => kt (q.mp h)) (fun h => kf (Int.not_lt.mp (fun z => h (q.mpr z))))
theorem ri_if_ge (hx : p.tables.exec = Jvm.exec) (hb : c.code = cc) {a : Int} {off : Int} {tgt : Nat} (ha : inR a) (hdg : decode cc pc = .ok (.ifCond .ge off, 3)) (ht : (pc : Int) + off = (tgt : Int)) (kt : 0 ≤ a → W p l e R s m args below meth c H locs cells slots Q (F0 m tgt ls rest)) (kf : a < 0 → W p l e R s m args below meth c H locs cells slots Q (F0 m (pc + 3) ls rest)) : W p l e R s m args below meth c H locs cells slots Q (F0 m pc ls (.int (iI a) :: rest)) := by
  have q := iI_le inR_0 ha
  rw [iI_0] at q
  exact lv_if_ge hx hb hdg ht (fun h => kt (q.mp h)) (fun h => kf (Int.not_le.mp (fun z => h (q.mpr z))))
theorem ri_if_gt (hx : p.tables.exec = Jvm.exec) (hb : c.code = cc) {a : Int} {off : Int} {tgt : Nat} (ha : inR a) (hdg : decode cc pc = .ok (.ifCond .gt off, 3)) (ht : (pc : Int) + off = (tgt : Int)) (kt : 0 < a → W p l e R s m args below meth c H locs cells slots Q (F0 m tgt ls rest)) (kf : a ≤ 0 → W p l e R s m args below meth c H locs cells slots Q (F0 m (pc + 3) ls rest)) : W p l e R s m args below meth c H locs cells slots Q (F0 m pc ls (.int (iI a) :: rest)) := by
  have q := iI_lt inR_0 ha
  rw [iI_0] at q
  exact lv_if_gt hx hb hdg ht (fun h => kt (q.mp h)) (fun h => kf (Int.not_lt.mp (fun z => h (q.mpr z))))
theorem ri_if_le (hx : p.tables.exec = Jvm.exec) (hb : c.code = cc) {a : Int} {off : Int} {tgt : Nat} (ha : inR a) (hdg : decode cc pc = .ok (.ifCond .le off, 3)) (ht : (pc : Int) + off = (tgt : Int)) (kt : a ≤ 0 → W p l e R s m args below meth c H locs cells slots Q (F0 m tgt ls rest)) (kf : 0 < a → W p l e R s m args below meth c H locs cells slots Q (F0 m (pc + 3) ls rest)) : W p l e R s m args below meth c H locs cells slots Q (F0 m pc ls (.int (iI a) :: rest)) := by
  have q := iI_le ha inR_0
  rw [iI_0] at q
  exact lv_if_le hx hb hdg ht (fun h => kt (q.mp h)) (fun h => kf (Int.not_le.mp (fun z => h (q.mpr z))))
theorem ri_icmp_eq (hx : p.tables.exec = Jvm.exec) (hb : c.code = cc) {a b : Int} {off : Int} {tgt : Nat} (ha : inR a) (hb' : inR b) (hdg : decode cc pc = .ok (.if_icmp .eq off, 3)) (ht : (pc : Int) + off = (tgt : Int)) (kt : a = b → W p l e R s m args below meth c H locs cells slots Q (F0 m tgt ls rest)) (kf : a ≠ b → W p l e R s m args below meth c H locs cells slots Q (F0 m (pc + 3) ls rest)) : W p l e R s m args below meth c H locs cells slots Q (F0 m pc ls (.int (iI b) :: .int (iI a) :: rest)) := by
  have q := iI_eq ha hb'
  exact lv_icmp_eq hx hb hdg ht (fun h => kt (q.mp h)) (fun h => kf (fun z => h (q.mpr z)))
theorem ri_icmp_ne (hx : p.tables.exec = Jvm.exec) (hb : c.code = cc) {a b : Int} {off : Int} {tgt : Nat} (ha : inR a) (hb' : inR b) (hdg : decode cc pc = .ok (.if_icmp .ne off, 3)) (ht : (pc : Int) + off = (tgt : Int)) (kt : a ≠ b → W p l e R s m args below meth c H locs cells slots Q (F0 m tgt ls rest)) (kf : a = b → W p l e R s m args below meth c H locs cells slots Q (F0 m (pc + 3) ls rest)) : W p l e R s m args below meth c H locs cells slots Q (F0 m pc ls (.int (iI b) :: .int (iI a) :: rest)) := by
  have q := iI_eq ha hb'
  exact lv_icmp_ne hx hb hdg ht (fun h => kt (fun z => h (q.mpr z))) (fun h => kf (q.mp h))
theorem ri_icmp_lt (hx : p.tables.exec = Jvm.exec) (hb : c.code = cc) {a b : Int} {off : Int} {tgt : Nat} (ha : inR a) (hb' : inR b) (hdg : decode cc pc = .ok (.if_icmp .lt off, 3)) (ht : (pc : Int) + off = (tgt : Int)) (kt : a < b → W p l e R s m args below meth c H locs cells slots Q (F0 m tgt ls rest)) (kf : b ≤ a → W p l e R s m args below meth c H locs cells slots Q (F0 m (pc + 3) ls rest)) : W p l e R s m args below meth c H locs cells slots Q (F0 m pc ls (.int (iI b) :: .int (iI a) :: rest)) := by
  have q := iI_lt ha hb'
  exact lv_icmp_lt hx hb hdg ht (fun h => kt (q.mp h)) (fun h => kf (Int.not_lt.mp (fun z => h (q.mpr z))))
theorem ri_icmp_ge (hx : p.tables.exec = Jvm.exec) (hb : c.code = cc) {a b : Int} {off : Int} {tgt : Nat} (ha : inR a) (hb' : inR b) (hdg : decode cc pc = .ok (.if_icmp .ge off, 3)) (ht : (pc : Int) + off = (tgt : Int)) (kt : b ≤ a → W p l e R s m args below meth c H locs cells slots Q (F0 m tgt ls rest)) (kf : a < b → W p l e R s m args below meth c H locs cells slots Q (F0 m (pc + 3) ls rest)) : W p l e R s m args below meth c H locs cells slots Q (F0 m pc ls (.int (iI b) :: .int (iI a) :: rest)) := by
  have q := iI_le hb' ha
  exact lv_icmp_ge hx hb hdg ht (fun h => kt (q.mp h)) (fun h => kf (Int.not_le.mp (fun z => h (q.mpr z))))
theorem ri_icmp_gt (hx : p.tables.exec = Jvm.exec) (hb : c.code = cc) {a b : Int} {off : Int} {tgt : Nat} (ha : inR a) (hb' : inR b) (hdg : decode cc pc = .ok (.if_icmp .gt off, 3)) (ht : (pc : Int) + off = (tgt : Int)) (kt : b < a → W p l e R s m args below meth c H locs cells slots Q (F0 m tgt ls rest)) (kf : a ≤ b → W p l e R s m args below meth c H locs cells slots Q (F0 m (pc + 3) ls rest)) : W p l e R s m args below meth c H locs cells slots Q (F0 m pc ls (.int (iI b) :: .int (iI a) :: rest)) := by
  have q := iI_lt hb' ha
  exact lv_icmp_gt hx hb hdg ht (fun h => kt (q.mp h)) (fun h => kf (Int.not_lt.mp (fun z => h (q.mpr z))))
theorem ri_icmp_le (hx : p.tables.exec = Jvm.exec) (hb : c.code = cc) {a b : Int} {off : Int} {tgt : Nat} (ha : inR a) (hb' : inR b) (hdg : decode cc pc = .ok (.if_icmp .le off, 3)) (ht : (pc : Int) + off = (tgt : Int)) (kt : a ≤ b → W p l e R s m args below meth c H locs cells slots Q (F0 m tgt ls rest)) (kf : b < a → W p l e R s m args below meth c H locs cells slots Q (F0 m (pc + 3) ls rest)) : W p l e R s m args below meth c H locs cells slots Q (F0 m pc ls (.int (iI b) :: .int (iI a) :: rest)) := by
  have q := iI_le ha hb'
  exact lv_icmp_le hx hb hdg ht (fun h => kt (q.mp h)) (fun h => kf (Int.not_le.mp (fun z => h (q.mpr z))))
/-- a call that reads alone: its value is known, the heap is as it was -/
theorem rc_V {v : Value} {a : Array Value} {st0 : List Value} (hr : CallRun p l e R s m args below meth c H locs cells slots 0 0 (F0 m pc ls st0) rest (k2_QcV v a) (fun _ => False)) (kk : W p l e R s m args below meth c H locs cells slots Q (F0 m (pc + 3) ls (v :: rest))) : W p l e R s m args below meth c H locs cells slots Q (F0 m pc ls st0) := by
  intro T hT X
  obtain ⟨v', st₀, t, T', L, h0, X', hL, e1, ⟨hv, hh⟩, st⟩ := hr T hT X
  cases hv
  obtain ⟨t2, a1, b1⟩ := kk T' (by rw [e1, hh, h0]) (Stand.forget X' (fun q h => (hL q h).elim))
  exact ⟨t2, st t2 a1, b1⟩
/-- a call that changes the heap: what its end says, for the heap behind it -/
theorem rc_G {mc ms : Nat} {free : Addr → Prop} {Qa : State → Outcome → State → Prop} {st0 : List Value} (hr : CallRun p l e R s m args below meth c H locs cells slots mc ms (F0 m pc ls st0) rest Qa free)
    (kk : ∀ (v : Option Value) (st₀ t : State) (L : List Loc), st₀.heap = H → Qa st₀ (.returned v) t → (∀ q ∈ L, free q.base) → W p l e R s m args below meth c  t.heap (locs ++ L) (cells + mc) (slots + ms) Q (F0 m (pc + 3) ls (v.toList ++ rest))) : W p l e R s m args below meth c H locs cells slots Q (F0 m pc ls st0) := by
  intro T hT X
  obtain ⟨v, st₀, t, T', L, h0, X', hL, e1, hq, st⟩ := hr T hT X
  obtain ⟨t2, a1, b1⟩ := kk v st₀ t L h0 hq hL T' e1 X'
  exact ⟨t2, st t2 a1, b1⟩
theorem ri_mmax (hx : p.tables.exec = Jvm.exec) (hb : c.code = cc) {nL : Nat} (hml : c.maxLocals = nL) (hsz : ls.size = nL) {own : String} {index : Nat} (hown : s.vm.findClass own = some m.cls) (hlink : (Cond.methodLink own index Lib.Math.max.name).before args s = true) (hstat : (Cond.static Lib.Math.max.name).before args s = true) (hini : (Cond.initialized "java/lang/Math").before args s = true) (hcode : (Cond.code Lib.Math.max.name Lib.Math.max.code 2 (some .int)).before args s = true) {a b : Int} (ha : inR a) (hb' : inR b) (hframes : 1 ≤ R.frames) (hlocals : (rest.map fun v => v.category).sum + 13 ≤ R.locals) (hc : cells ≤ R.cells) (hs : slots ≤ R.slots) (hdg : decode cc pc = .ok (.invokestatic index, 3)) (k : W p l e R s m args below meth c H locs cells slots Q (F0 m (pc + 3) ls (.int (iI (if a < b then b else a)) :: rest))) : W p l e R s m args below meth c H locs cells slots Q (F0 m pc ls (.int (iI b) :: .int (iI a) :: rest)) := by
  refine va_mmax hx hb (hml.trans hsz.symm) hown hlink hstat hini hcode hframes hlocals hc hs hdg ?_
  have q := iI_lt ha hb'
  by_cases h : a < b
  · rw [if_pos (q.mpr h)]; rw [if_pos h] at k; exact k
  · rw [if_neg (fun z => h (q.mp z))]; rw [if_neg h] at k; exact k
theorem ri_mmin (hx : p.tables.exec = Jvm.exec) (hb : c.code = cc) {nL : Nat} (hml : c.maxLocals = nL) (hsz : ls.size = nL) {own : String} {index : Nat} (hown : s.vm.findClass own = some m.cls) (hlink : (Cond.methodLink own index Lib.Math.min.name).before args s = true) (hstat : (Cond.static Lib.Math.min.name).before args s = true) (hini : (Cond.initialized "java/lang/Math").before args s = true) (hcode : (Cond.code Lib.Math.min.name Lib.Math.min.code 2 (some .int)).before args s = true) {a b : Int} (ha : inR a) (hb' : inR b) (hframes : 1 ≤ R.frames) (hlocals : (rest.map fun v => v.category).sum + 13 ≤ R.locals) (hc : cells ≤ R.cells) (hs : slots ≤ R.slots) (hdg : decode cc pc = .ok (.invokestatic index, 3)) (k : W p l e R s m args below meth c H locs cells slots Q (F0 m (pc + 3) ls (.int (iI (if b < a then b else a)) :: rest))) : W p l e R s m args below meth c H locs cells slots Q (F0 m pc ls (.int (iI b) :: .int (iI a) :: rest)) := by
  refine va_mmin hx hb (hml.trans hsz.symm) hown hlink hstat hini hcode hframes hlocals hc hs hdg ?_
  have q := iI_lt hb' ha
  by_cases h : b < a
  · rw [if_pos (q.mpr h)]; rw [if_pos h] at k; exact k
  · rw [if_neg (fun z => h (q.mp z))]; rw [if_neg h] at k; exact k
end BR
