set_option maxRecDepth 100000
/-! the reference: F its numbers by their fields, G its best* (34: one more than it holds), N its arrays by their fields (25: one more than it holds), X its scratch (30, 31, 37), Z its loads (field 11) -/
def mlen (k : Nat) : Nat := match k with
  | 6 => 10
  | 7 => 16
  | 8 => 16
  | 9 => 160
  | 10 => 160
  | 11 => 160
  | 12 => 40
  | 13 => 16
  | 14 => 60
  | 15 => 60
  | 16 => 60
  | 17 => 60
  | 18 => 60
  | 19 => 60
  | 20 => 60
  | 21 => 60
  | 22 => 120
  | 23 => 120
  | 24 => 120
  | 25 => 120
  | 26 => 120
  | 27 => 360
  | 28 => 360
  | 29 => 360
  | 30 => 640
  | 31 => 640
  | 37 => 60
  | _ => 0
def mz (k : Nat) : Nat := match k with
  | 13 => 1
  | 21 => 1
  | 22 => 1
  | 23 => 1
  | 37 => 1
  | _ => 0
def isA (k : Nat) : Prop := (6 ≤ k ∧ k ≤ 31) ∨ k = 37
def mval (N X : Nat → Nat → Nat) (Z : Nat → Int) (k : Nat) (j : Nat) : Int := match k with
  | 11 => Z j
  | 30 => (X 30 j : Int)
  | 31 => (X 31 j : Int)
  | 37 => (X 37 j : Int)
  | 25 => (N 25 j : Int) - 1
  | k => (N k j : Int)
def mfs (ad : Nat → Nat) (F G : Nat → Nat) : List Value := [.int (iI (F 0)), .int (iI (F 1)), .int (iI (F 2)), .int (iI (F 3)), .int (iI (F 4)), .int (iI (F 5)), .ref (ad 6), .ref (ad 7), .ref (ad 8), .ref (ad 9), .ref (ad 10), .ref (ad 11), .ref (ad 12), .ref (ad 13), .ref (ad 14), .ref (ad 15), .ref (ad 16), .ref (ad 17), .ref (ad 18), .ref (ad 19), .ref (ad 20), .ref (ad 21), .ref (ad 22), .ref (ad 23), .ref (ad 24), .ref (ad 25), .ref (ad 26), .ref (ad 27), .ref (ad 28), .ref (ad 29), .ref (ad 30), .ref (ad 31), .int (iI (G 32)), .int (iI (G 33)), .int (iI ((G 34 : Int) - 1)), .int (iI (G 35)), .int (iI (G 36)), .ref (ad 37)]
def MW (D : va_G) (cA : Nat → ClassId) (A : Nat → Prop) (o : Nat) (ad : Nat → Nat) (F G : Nat → Nat) (N X : Nat → Nat → Nat) (Z : Nat → Int) (H : Heap) : Prop :=
  va_at D CL (o, .inr (0, mfs ad F G)) H ∧ A o ∧ (∀ k, isA k → va_at D CL (ad k, .inl (cA (mz k), mlen k, .inl (fun j => iI (mval N X Z k j)))) H ∧ A (ad k) ∧ ad k ≠ o) ∧ (∀ k k', isA k → isA k' → ad k = ad k' → k = k')
section MWS
variable {p : Program} {l : Launch} {e : Env} {R : Room} {s : State} {m : MethodId} {args : Array Value} {below : List Frame} {meth : Method} {c : Code} {H : Heap} {locs : List Loc} {cells slots : Nat} {Q : State → Prop} {cc : ByteArray} {pc : Nat} {ls : Array Slot} {rest : List Value} {D : va_G} {cA : Nat → ClassId} {A : Nat → Prop} {H0 : Heap} {o : Nat} {ad : Nat → Nat} {F G : Nat → Nat} {N X : Nat → Nat → Nat} {Z : Nat → Int}
theorem MW.a6 (h : MW D cA A o ad F G N X Z H) : va_at D CL (ad 6, .inl (cA 0, 10, .inl (fun j => iI ((N 6 j : Int))))) H := (h.2.2.1 6 (by unfold isA; omega)).1
theorem MW.A6 (h : MW D cA A o ad F G N X Z H) : A (ad 6) := (h.2.2.1 6 (by unfold isA; omega)).2.1
theorem MW.a7 (h : MW D cA A o ad F G N X Z H) : va_at D CL (ad 7, .inl (cA 0, 16, .inl (fun j => iI ((N 7 j : Int))))) H := (h.2.2.1 7 (by unfold isA; omega)).1
theorem MW.A7 (h : MW D cA A o ad F G N X Z H) : A (ad 7) := (h.2.2.1 7 (by unfold isA; omega)).2.1
theorem MW.a8 (h : MW D cA A o ad F G N X Z H) : va_at D CL (ad 8, .inl (cA 0, 16, .inl (fun j => iI ((N 8 j : Int))))) H := (h.2.2.1 8 (by unfold isA; omega)).1
theorem MW.A8 (h : MW D cA A o ad F G N X Z H) : A (ad 8) := (h.2.2.1 8 (by unfold isA; omega)).2.1
theorem MW.a9 (h : MW D cA A o ad F G N X Z H) : va_at D CL (ad 9, .inl (cA 0, 160, .inl (fun j => iI ((N 9 j : Int))))) H := (h.2.2.1 9 (by unfold isA; omega)).1
theorem MW.A9 (h : MW D cA A o ad F G N X Z H) : A (ad 9) := (h.2.2.1 9 (by unfold isA; omega)).2.1
theorem MW.a10 (h : MW D cA A o ad F G N X Z H) : va_at D CL (ad 10, .inl (cA 0, 160, .inl (fun j => iI ((N 10 j : Int))))) H := (h.2.2.1 10 (by unfold isA; omega)).1
theorem MW.A10 (h : MW D cA A o ad F G N X Z H) : A (ad 10) := (h.2.2.1 10 (by unfold isA; omega)).2.1
theorem MW.a11 (h : MW D cA A o ad F G N X Z H) : va_at D CL (ad 11, .inl (cA 0, 160, .inl (fun j => iI (Z j)))) H := (h.2.2.1 11 (by unfold isA; omega)).1
theorem MW.A11 (h : MW D cA A o ad F G N X Z H) : A (ad 11) := (h.2.2.1 11 (by unfold isA; omega)).2.1
theorem MW.a12 (h : MW D cA A o ad F G N X Z H) : va_at D CL (ad 12, .inl (cA 0, 40, .inl (fun j => iI ((N 12 j : Int))))) H := (h.2.2.1 12 (by unfold isA; omega)).1
theorem MW.A12 (h : MW D cA A o ad F G N X Z H) : A (ad 12) := (h.2.2.1 12 (by unfold isA; omega)).2.1
theorem MW.a13 (h : MW D cA A o ad F G N X Z H) : va_at D CL (ad 13, .inl (cA 1, 16, .inl (fun j => iI ((N 13 j : Int))))) H := (h.2.2.1 13 (by unfold isA; omega)).1
theorem MW.A13 (h : MW D cA A o ad F G N X Z H) : A (ad 13) := (h.2.2.1 13 (by unfold isA; omega)).2.1
theorem MW.a14 (h : MW D cA A o ad F G N X Z H) : va_at D CL (ad 14, .inl (cA 0, 60, .inl (fun j => iI ((N 14 j : Int))))) H := (h.2.2.1 14 (by unfold isA; omega)).1
theorem MW.A14 (h : MW D cA A o ad F G N X Z H) : A (ad 14) := (h.2.2.1 14 (by unfold isA; omega)).2.1
theorem MW.a15 (h : MW D cA A o ad F G N X Z H) : va_at D CL (ad 15, .inl (cA 0, 60, .inl (fun j => iI ((N 15 j : Int))))) H := (h.2.2.1 15 (by unfold isA; omega)).1
theorem MW.A15 (h : MW D cA A o ad F G N X Z H) : A (ad 15) := (h.2.2.1 15 (by unfold isA; omega)).2.1
theorem MW.a16 (h : MW D cA A o ad F G N X Z H) : va_at D CL (ad 16, .inl (cA 0, 60, .inl (fun j => iI ((N 16 j : Int))))) H := (h.2.2.1 16 (by unfold isA; omega)).1
theorem MW.A16 (h : MW D cA A o ad F G N X Z H) : A (ad 16) := (h.2.2.1 16 (by unfold isA; omega)).2.1
theorem MW.a17 (h : MW D cA A o ad F G N X Z H) : va_at D CL (ad 17, .inl (cA 0, 60, .inl (fun j => iI ((N 17 j : Int))))) H := (h.2.2.1 17 (by unfold isA; omega)).1
theorem MW.A17 (h : MW D cA A o ad F G N X Z H) : A (ad 17) := (h.2.2.1 17 (by unfold isA; omega)).2.1
theorem MW.a18 (h : MW D cA A o ad F G N X Z H) : va_at D CL (ad 18, .inl (cA 0, 60, .inl (fun j => iI ((N 18 j : Int))))) H := (h.2.2.1 18 (by unfold isA; omega)).1
theorem MW.A18 (h : MW D cA A o ad F G N X Z H) : A (ad 18) := (h.2.2.1 18 (by unfold isA; omega)).2.1
theorem MW.a19 (h : MW D cA A o ad F G N X Z H) : va_at D CL (ad 19, .inl (cA 0, 60, .inl (fun j => iI ((N 19 j : Int))))) H := (h.2.2.1 19 (by unfold isA; omega)).1
theorem MW.A19 (h : MW D cA A o ad F G N X Z H) : A (ad 19) := (h.2.2.1 19 (by unfold isA; omega)).2.1
theorem MW.a20 (h : MW D cA A o ad F G N X Z H) : va_at D CL (ad 20, .inl (cA 0, 60, .inl (fun j => iI ((N 20 j : Int))))) H := (h.2.2.1 20 (by unfold isA; omega)).1
theorem MW.A20 (h : MW D cA A o ad F G N X Z H) : A (ad 20) := (h.2.2.1 20 (by unfold isA; omega)).2.1
theorem MW.a21 (h : MW D cA A o ad F G N X Z H) : va_at D CL (ad 21, .inl (cA 1, 60, .inl (fun j => iI ((N 21 j : Int))))) H := (h.2.2.1 21 (by unfold isA; omega)).1
theorem MW.A21 (h : MW D cA A o ad F G N X Z H) : A (ad 21) := (h.2.2.1 21 (by unfold isA; omega)).2.1
theorem MW.a22 (h : MW D cA A o ad F G N X Z H) : va_at D CL (ad 22, .inl (cA 1, 120, .inl (fun j => iI ((N 22 j : Int))))) H := (h.2.2.1 22 (by unfold isA; omega)).1
theorem MW.A22 (h : MW D cA A o ad F G N X Z H) : A (ad 22) := (h.2.2.1 22 (by unfold isA; omega)).2.1
theorem MW.a23 (h : MW D cA A o ad F G N X Z H) : va_at D CL (ad 23, .inl (cA 1, 120, .inl (fun j => iI ((N 23 j : Int))))) H := (h.2.2.1 23 (by unfold isA; omega)).1
theorem MW.A23 (h : MW D cA A o ad F G N X Z H) : A (ad 23) := (h.2.2.1 23 (by unfold isA; omega)).2.1
theorem MW.a24 (h : MW D cA A o ad F G N X Z H) : va_at D CL (ad 24, .inl (cA 0, 120, .inl (fun j => iI ((N 24 j : Int))))) H := (h.2.2.1 24 (by unfold isA; omega)).1
theorem MW.A24 (h : MW D cA A o ad F G N X Z H) : A (ad 24) := (h.2.2.1 24 (by unfold isA; omega)).2.1
theorem MW.a25 (h : MW D cA A o ad F G N X Z H) : va_at D CL (ad 25, .inl (cA 0, 120, .inl (fun j => iI ((N 25 j : Int) - 1)))) H := (h.2.2.1 25 (by unfold isA; omega)).1
theorem MW.A25 (h : MW D cA A o ad F G N X Z H) : A (ad 25) := (h.2.2.1 25 (by unfold isA; omega)).2.1
theorem MW.a26 (h : MW D cA A o ad F G N X Z H) : va_at D CL (ad 26, .inl (cA 0, 120, .inl (fun j => iI ((N 26 j : Int))))) H := (h.2.2.1 26 (by unfold isA; omega)).1
theorem MW.A26 (h : MW D cA A o ad F G N X Z H) : A (ad 26) := (h.2.2.1 26 (by unfold isA; omega)).2.1
theorem MW.a27 (h : MW D cA A o ad F G N X Z H) : va_at D CL (ad 27, .inl (cA 0, 360, .inl (fun j => iI ((N 27 j : Int))))) H := (h.2.2.1 27 (by unfold isA; omega)).1
theorem MW.A27 (h : MW D cA A o ad F G N X Z H) : A (ad 27) := (h.2.2.1 27 (by unfold isA; omega)).2.1
theorem MW.a28 (h : MW D cA A o ad F G N X Z H) : va_at D CL (ad 28, .inl (cA 0, 360, .inl (fun j => iI ((N 28 j : Int))))) H := (h.2.2.1 28 (by unfold isA; omega)).1
theorem MW.A28 (h : MW D cA A o ad F G N X Z H) : A (ad 28) := (h.2.2.1 28 (by unfold isA; omega)).2.1
theorem MW.a29 (h : MW D cA A o ad F G N X Z H) : va_at D CL (ad 29, .inl (cA 0, 360, .inl (fun j => iI ((N 29 j : Int))))) H := (h.2.2.1 29 (by unfold isA; omega)).1
theorem MW.A29 (h : MW D cA A o ad F G N X Z H) : A (ad 29) := (h.2.2.1 29 (by unfold isA; omega)).2.1
theorem MW.a30 (h : MW D cA A o ad F G N X Z H) : va_at D CL (ad 30, .inl (cA 0, 640, .inl (fun j => iI ((X 30 j : Int))))) H := (h.2.2.1 30 (by unfold isA; omega)).1
theorem MW.A30 (h : MW D cA A o ad F G N X Z H) : A (ad 30) := (h.2.2.1 30 (by unfold isA; omega)).2.1
theorem MW.a31 (h : MW D cA A o ad F G N X Z H) : va_at D CL (ad 31, .inl (cA 0, 640, .inl (fun j => iI ((X 31 j : Int))))) H := (h.2.2.1 31 (by unfold isA; omega)).1
theorem MW.A31 (h : MW D cA A o ad F G N X Z H) : A (ad 31) := (h.2.2.1 31 (by unfold isA; omega)).2.1
theorem MW.a37 (h : MW D cA A o ad F G N X Z H) : va_at D CL (ad 37, .inl (cA 1, 60, .inl (fun j => iI ((X 37 j : Int))))) H := (h.2.2.1 37 (by unfold isA; omega)).1
theorem MW.A37 (h : MW D cA A o ad F G N X Z H) : A (ad 37) := (h.2.2.1 37 (by unfold isA; omega)).2.1
theorem MW.kept {H1 : Heap} (h : MW D cA A o ad F G N X Z H) (hq : ∀ q, A q → H1[q]? = H[q]?) : MW D cA A o ad F G N X Z H1 :=
  ⟨h.1.kept (hq _ h.2.1), h.2.1, fun k hk => ⟨(h.2.2.1 k hk).1.kept (hq _ (h.2.2.1 k hk).2.1), (h.2.2.1 k hk).2⟩, h.2.2.2⟩
theorem MW.setA {N' X' : Nat → Nat → Nat} {Z' : Nat → Int} {H1 : Heap} (h : MW D cA A o ad F G N X Z H) (k : Nat) (hk : isA k) (hP : va_at D CL (ad k, .inl (cA (mz k), mlen k, .inl (fun j => iI (mval N' X' Z' k j)))) H1) (ho : ∀ k', isA k' → k' ≠ k → ∀ j, mval N' X' Z' k' j = mval N X Z k' j) (oq : ∀ q, q ≠ ad k → H1[q]? = H[q]?) : MW D cA A o ad F G N' X' Z' H1 := by
  refine ⟨h.1.kept (oq _ (h.2.2.1 k hk).2.2.symm), h.2.1, fun k' hk' => ?_, h.2.2.2⟩
  by_cases e : k' = k
  · subst e
    exact ⟨hP, (h.2.2.1 k' hk').2⟩
  · have h1 := (h.2.2.1 k' hk')
    refine ⟨?_, h1.2⟩
    have h2 := h1.1.kept (oq (ad k') (fun q => e (h.2.2.2 _ _ hk' hk q)))
    have h3 : (fun j => iI (mval N' X' Z' k' j)) = (fun j => iI (mval N X Z k' j)) := by
      funext j
      rw [ho k' hk' e j]
    rw [h3]
    exact h2
theorem MW.setF {F' G' : Nat → Nat} {fs : List Value} {H1 : Heap} (h : MW D cA A o ad F G N X Z H) (hP : va_at D CL (o, .inr (0, fs)) H1) (hf : fs = mfs ad F' G') (oq : ∀ q, q ≠ o → H1[q]? = H[q]?) : MW D cA A o ad F' G' N X Z H1 := by
  subst hf
  exact ⟨hP, h.2.1, fun k hk => ⟨(h.2.2.1 k hk).1.kept (oq _ (h.2.2.1 k hk).2.2), (h.2.2.1 k hk).2⟩, h.2.2.2⟩
theorem mval_ne {k k' j j' : Nat} {v : Nat} (hk : k' ≠ k) : mval (up2 N k j v) X Z k' j' = mval N X Z k' j' := by
  unfold mval
  split <;> first | rfl | rw [up2_ne (Or.inl hk)]
theorem mval_neX {k k' j j' : Nat} {v : Nat} (hk : k' ≠ k) : mval N (up2 X k j v) Z k' j' = mval N X Z k' j' := by
  unfold mval
  split <;> first | rfl | rw [up2_ne (Or.inl hk)]
theorem mval_neZ {Z' : Nat → Int} {k' j' : Nat} (hk : k' ≠ 11) : mval N X Z' k' j' = mval N X Z k' j' := by
  unfold mval
  split <;> first | rfl | exact absurd rfl hk
theorem m_get (hx : p.tables.exec = Jvm.exec) (hb : c.code = cc) (hts : ∀ w ∈ lw_all, w.before args s = true) (hown : s.vm.findClass RX2 = some m.cls) (hK : Kx D cA s) (hW : MW D cA A o ad F G N X Z H) (k : Nat) (hk : k < 38) {index : Nat} (hlink : Cond.fieldLink RX2 index RX2 (TX2 k).2.1 (TX2 k).2.2.1 ∈ lw_all) (hsame : (TX2 k).1 = RX2) {v : Value} (hv : (mfs ad F G)[k]? = some v) (hdg : decode cc pc = .ok (.getfield index, 3)) (kk : W p l e R s m args below meth c H locs cells slots Q (F0 m (pc + 3) ls (v :: rest))) : W p l e R s m args below meth c H locs cells slots Q (F0 m pc ls (.ref o :: rest)) :=
  h_get hx hb hts in_X2 hown hK hW.1 rfl k hk (hts _ hlink) hsame hv hdg kk
theorem m_put (hx : p.tables.exec = Jvm.exec) (hb : c.code = cc) (hts : ∀ w ∈ lw_all, w.before args s = true) (hown : s.vm.findClass RX2 = some m.cls) (hK : Kx D cA s) (hW : MW D cA A o ad F G N X Z H) (hS : va_S A H0 H locs) (k : Nat) (hk : k < 38) {index : Nat} (hlink : Cond.fieldLink RX2 index RX2 (TX2 k).2.1 (TX2 k).2.2.1 ∈ lw_all) (hsame : (TX2 k).1 = RX2) (hfin : (TX2 k).2.2.2 = false) (hd : parseFieldDescriptor (TX2 k).2.2.1 = some .int) {z : Int} (v : Nat) (hset : (mfs ad F G).set k (.int (iI z)) = mfs ad (va_up F k v) G) (hdg : decode cc pc = .ok (.putfield index, 3))
    (kk : ∀ (H1 : Heap) (locs1 : List Loc), MW D cA A o ad (va_up F k v) G N X Z H1 → va_S A H0 H1 locs1 → W p l e R s m args below meth c  H1 locs1 cells slots Q (F0 m (pc + 3) ls rest)) : W p l e R s m args below meth c H locs cells slots Q (F0 m pc ls (.int (iI z) :: .ref o :: rest)) :=
  h_put hx hb hts in_X2 tyX2 tyX2_ok nmX2 hown hK hW.1 hS hW.2.1 rfl k hk (hts _ hlink) hsame hfin hd rfl rfl (by show k < 38; exact hk) hdg (fun H1 locs1 hP oq z1 hS1 => kk H1 locs1 (hW.setF hP hset oq) hS1)
theorem m_putG (hx : p.tables.exec = Jvm.exec) (hb : c.code = cc) (hts : ∀ w ∈ lw_all, w.before args s = true) (hown : s.vm.findClass RX2 = some m.cls) (hK : Kx D cA s) (hW : MW D cA A o ad F G N X Z H) (hS : va_S A H0 H locs) (k : Nat) (hk : k < 38) {index : Nat} (hlink : Cond.fieldLink RX2 index RX2 (TX2 k).2.1 (TX2 k).2.2.1 ∈ lw_all) (hsame : (TX2 k).1 = RX2) (hfin : (TX2 k).2.2.2 = false) (hd : parseFieldDescriptor (TX2 k).2.2.1 = some .int) {z : Int} (v : Nat) (hset : (mfs ad F G).set k (.int (iI z)) = mfs ad F (va_up G k v)) (hdg : decode cc pc = .ok (.putfield index, 3))
    (kk : ∀ (H1 : Heap) (locs1 : List Loc), MW D cA A o ad F (va_up G k v) N X Z H1 → va_S A H0 H1 locs1 → W p l e R s m args below meth c  H1 locs1 cells slots Q (F0 m (pc + 3) ls rest)) : W p l e R s m args below meth c H locs cells slots Q (F0 m pc ls (.int (iI z) :: .ref o :: rest)) :=
  h_put hx hb hts in_X2 tyX2 tyX2_ok nmX2 hown hK hW.1 hS hW.2.1 rfl k hk (hts _ hlink) hsame hfin hd rfl rfl (by show k < 38; exact hk) hdg (fun H1 locs1 hP oq z1 hS1 => kk H1 locs1 (hW.setF hP hset oq) hS1)
theorem m_ld (hx : p.tables.exec = Jvm.exec) (hb : c.code = cc) (hK : Kx D cA s) {a n : Nat} {g : Nat → Int} (hP : va_at D CL (a, .inl (cA 0, n, .inl (fun j => iI (g j)))) H) {z : Int} (j : Nat) (hz : z = (j : Int)) (hj : j < n) (hn : n < 2147483648) (hdg : decode cc pc = .ok (.iaload, 1)) (kk : W p l e R s m args below meth c H locs cells slots Q (F0 m (pc + 1) ls (.int (iI (g j)) :: rest))) : W p l e R s m args below meth c H locs cells slots Q (F0 m pc ls (.int (iI z) :: .ref a :: rest)) := h_iald hx hb hK hP j hz hj hn hdg kk
theorem m_st (hx : p.tables.exec = Jvm.exec) (hb : c.code = cc) (hK : Kx D cA s) (hW : MW D cA A o ad F G N X Z H) (hS : va_S A H0 H locs) (k : Nat) (hk : isA k) (hk1 : k ≠ 11 ∧ k ≠ 25 ∧ k ≠ 30 ∧ k ≠ 31 ∧ k ≠ 37) (hm : mz k = 0) {z w : Int} (j : Nat) (hz : z = (j : Int)) (hj : j < mlen k) (v : Nat) (hv : w = (v : Int)) (hdg : decode cc pc = .ok (.iastore, 1))
    (kk : ∀ (H1 : Heap) (locs1 : List Loc), MW D cA A o ad F G (up2 N k j v) X Z H1 → va_S A H0 H1 locs1 → W p l e R s m args below meth c  H1 locs1 cells slots Q (F0 m (pc + 1) ls rest)) : W p l e R s m args below meth c H locs cells slots Q (F0 m pc ls (.int (iI w) :: .int (iI z) :: .ref (ad k) :: rest)) := by
  have hP := hW.2.2.1 k hk
  have hml : mlen k < 2147483648 := by unfold mlen; split <;> omega
  have hP1 := hP.1
  rw [hm] at hP1
  have hno : ∀ k', isA k' → k' ≠ k → ∀ i, mval (up2 N k j v) X Z k' i = mval N X Z k' i := fun k' _ hne i => mval_ne hne
  refine h_iast (n := mlen k) (g := fun j => mval N X Z k j) hx hb hK hP1 hS hP.2.1 j hz hj hml hdg (fun H1 locs1 h1 oq z1 hS1 => kk H1 locs1 (hW.setA k hk ?_ hno oq) hS1)
  rw [hm]
  have e : (fun i => iI (va_up (fun j => mval N X Z k j) j w i)) = (fun i => iI (mval (up2 N k j v) X Z k i)) := by
    funext i
    unfold va_up mval
    by_cases hi : i = j
    · rw [if_pos hi, hi, hv]
      split <;> first | (exfalso; omega) | rw [up2_eq] | (rename_i a1 a2 a3 a4 a5; rcases hk1 with h9 | h9 | h9 <;> first | exact absurd h9 a1 | exact absurd h9 a2 | exact absurd h9 a3 | exact absurd h9 a4 | exact absurd h9 a5)
    · rw [if_neg hi]
      split <;> first | rfl | rw [up2_ne (Or.inr hi)]
  rw [← e]
  exact h1
theorem m_stZ (hx : p.tables.exec = Jvm.exec) (hb : c.code = cc) (hK : Kx D cA s) (hW : MW D cA A o ad F G N X Z H) (hS : va_S A H0 H locs) (k : Nat) (hk : isA k) (hk1 : k ≠ 11 ∧ k ≠ 25 ∧ k ≠ 30 ∧ k ≠ 31 ∧ k ≠ 37) (hm : mz k = 1) {z w : Int} (hw : w = 0 ∨ w = 1) (j : Nat) (hz : z = (j : Int)) (hj : j < mlen k) (v : Nat) (hv : w = (v : Int)) (hdg : decode cc pc = .ok (.bastore, 1))
    (kk : ∀ (H1 : Heap) (locs1 : List Loc), MW D cA A o ad F G (up2 N k j v) X Z H1 → va_S A H0 H1 locs1 → W p l e R s m args below meth c  H1 locs1 cells slots Q (F0 m (pc + 1) ls rest)) : W p l e R s m args below meth c H locs cells slots Q (F0 m pc ls (.int (iI w) :: .int (iI z) :: .ref (ad k) :: rest)) := by
  have hP := hW.2.2.1 k hk
  have hml : mlen k < 2147483648 := by unfold mlen; split <;> omega
  have hP1 := hP.1
  rw [hm] at hP1
  have hno : ∀ k', isA k' → k' ≠ k → ∀ i, mval (up2 N k j v) X Z k' i = mval N X Z k' i := fun k' _ hne i => mval_ne hne
  refine h_zast (n := mlen k) (g := fun j => mval N X Z k j) hx hb hK hP1 hS hP.2.1 hw j hz hj hml hdg (fun H1 locs1 h1 oq z1 hS1 => kk H1 locs1 (hW.setA k hk ?_ hno oq) hS1)
  rw [hm]
  have e : (fun i => iI (va_up (fun j => mval N X Z k j) j w i)) = (fun i => iI (mval (up2 N k j v) X Z k i)) := by
    funext i
    unfold va_up mval
    by_cases hi : i = j
    · rw [if_pos hi, hi, hv]
      split <;> first | (exfalso; omega) | rw [up2_eq] | (rename_i a1 a2 a3 a4 a5; rcases hk1 with h9 | h9 | h9 <;> first | exact absurd h9 a1 | exact absurd h9 a2 | exact absurd h9 a3 | exact absurd h9 a4 | exact absurd h9 a5)
    · rw [if_neg hi]
      split <;> first | rfl | rw [up2_ne (Or.inr hi)]
  rw [← e]
  exact h1
theorem m_stX (hx : p.tables.exec = Jvm.exec) (hb : c.code = cc) (hK : Kx D cA s) (hW : MW D cA A o ad F G N X Z H) (hS : va_S A H0 H locs) (k : Nat) (hk : isA k) (hk1 : k = 30 ∨ k = 31 ∨ k = 37) (hm : mz k = 0) {z w : Int} (j : Nat) (hz : z = (j : Int)) (hj : j < mlen k) (v : Nat) (hv : w = (v : Int)) (hdg : decode cc pc = .ok (.iastore, 1))
    (kk : ∀ (H1 : Heap) (locs1 : List Loc), MW D cA A o ad F G N (up2 X k j v) Z H1 → va_S A H0 H1 locs1 → W p l e R s m args below meth c  H1 locs1 cells slots Q (F0 m (pc + 1) ls rest)) : W p l e R s m args below meth c H locs cells slots Q (F0 m pc ls (.int (iI w) :: .int (iI z) :: .ref (ad k) :: rest)) := by
  have hP := hW.2.2.1 k hk
  have hml : mlen k < 2147483648 := by unfold mlen; split <;> omega
  have hP1 := hP.1
  rw [hm] at hP1
  have hno : ∀ k', isA k' → k' ≠ k → ∀ i, mval N (up2 X k j v) Z k' i = mval N X Z k' i := fun k' _ hne i => mval_neX hne
  refine h_iast (n := mlen k) (g := fun j => mval N X Z k j) hx hb hK hP1 hS hP.2.1 j hz hj hml hdg (fun H1 locs1 h1 oq z1 hS1 => kk H1 locs1 (hW.setA k hk ?_ hno oq) hS1)
  rw [hm]
  have e : (fun i => iI (va_up (fun j => mval N X Z k j) j w i)) = (fun i => iI (mval N (up2 X k j v) Z k i)) := by
    funext i
    unfold va_up mval
    by_cases hi : i = j
    · rw [if_pos hi, hi, hv]
      split <;> first | (exfalso; omega) | rw [up2_eq] | (rename_i a1 a2 a3 a4 a5; rcases hk1 with h9 | h9 | h9 <;> first | exact absurd h9 a1 | exact absurd h9 a2 | exact absurd h9 a3 | exact absurd h9 a4 | exact absurd h9 a5)
    · rw [if_neg hi]
      split <;> first | rfl | rw [up2_ne (Or.inr hi)]
  rw [← e]
  exact h1
theorem m_stXZ (hx : p.tables.exec = Jvm.exec) (hb : c.code = cc) (hK : Kx D cA s) (hW : MW D cA A o ad F G N X Z H) (hS : va_S A H0 H locs) (k : Nat) (hk : isA k) (hk1 : k = 30 ∨ k = 31 ∨ k = 37) (hm : mz k = 1) {z w : Int} (hw : w = 0 ∨ w = 1) (j : Nat) (hz : z = (j : Int)) (hj : j < mlen k) (v : Nat) (hv : w = (v : Int)) (hdg : decode cc pc = .ok (.bastore, 1))
    (kk : ∀ (H1 : Heap) (locs1 : List Loc), MW D cA A o ad F G N (up2 X k j v) Z H1 → va_S A H0 H1 locs1 → W p l e R s m args below meth c  H1 locs1 cells slots Q (F0 m (pc + 1) ls rest)) : W p l e R s m args below meth c H locs cells slots Q (F0 m pc ls (.int (iI w) :: .int (iI z) :: .ref (ad k) :: rest)) := by
  have hP := hW.2.2.1 k hk
  have hml : mlen k < 2147483648 := by unfold mlen; split <;> omega
  have hP1 := hP.1
  rw [hm] at hP1
  have hno : ∀ k', isA k' → k' ≠ k → ∀ i, mval N (up2 X k j v) Z k' i = mval N X Z k' i := fun k' _ hne i => mval_neX hne
  refine h_zast (n := mlen k) (g := fun j => mval N X Z k j) hx hb hK hP1 hS hP.2.1 hw j hz hj hml hdg (fun H1 locs1 h1 oq z1 hS1 => kk H1 locs1 (hW.setA k hk ?_ hno oq) hS1)
  rw [hm]
  have e : (fun i => iI (va_up (fun j => mval N X Z k j) j w i)) = (fun i => iI (mval N (up2 X k j v) Z k i)) := by
    funext i
    unfold va_up mval
    by_cases hi : i = j
    · rw [if_pos hi, hi, hv]
      split <;> first | (exfalso; omega) | rw [up2_eq] | (rename_i a1 a2 a3 a4 a5; rcases hk1 with h9 | h9 | h9 <;> first | exact absurd h9 a1 | exact absurd h9 a2 | exact absurd h9 a3 | exact absurd h9 a4 | exact absurd h9 a5)
    · rw [if_neg hi]
      split <;> first | rfl | rw [up2_ne (Or.inr hi)]
  rw [← e]
  exact h1
theorem m_st25 (hx : p.tables.exec = Jvm.exec) (hb : c.code = cc) (hK : Kx D cA s) (hW : MW D cA A o ad F G N X Z H) (hS : va_S A H0 H locs) {z w : Int} (j : Nat) (hz : z = (j : Int)) (hj : j < 120) (v : Nat) (hv : w = (v : Int) - 1) (hdg : decode cc pc = .ok (.iastore, 1))
    (kk : ∀ (H1 : Heap) (locs1 : List Loc), MW D cA A o ad F G (up2 N 25 j v) X Z H1 → va_S A H0 H1 locs1 → W p l e R s m args below meth c  H1 locs1 cells slots Q (F0 m (pc + 1) ls rest)) : W p l e R s m args below meth c H locs cells slots Q (F0 m pc ls (.int (iI w) :: .int (iI z) :: .ref (ad 25) :: rest)) := by
  refine h_iast hx hb hK hW.a25 hS hW.A25 j hz hj (by decide) hdg (fun H1 locs1 h1 oq z1 hS1 => ?_)
  refine kk H1 locs1 ?_ hS1
  have hno : ∀ k', isA k' → k' ≠ 25 → ∀ i, mval (up2 N 25 j v) X Z k' i = mval N X Z k' i := fun k' _ hne i => mval_ne hne
  refine hW.setA 25 (by unfold isA; omega) ?_ hno oq
  show va_at D CL (ad 25, .inl (cA 0, 120, .inl (fun i => iI (((up2 N 25 j v 25 i : Nat) : Int) - 1)))) H1
  have e : (fun i => iI (va_up (fun j => (N 25 j : Int) - 1) j w i)) = (fun i => iI (((up2 N 25 j v 25 i : Nat) : Int) - 1)) := by
    funext i
    unfold va_up
    by_cases hi : i = j
    · rw [if_pos hi, hi, hv, up2_eq]
    · rw [if_neg hi, up2_ne (Or.inr hi)]
  rw [← e]
  exact h1
theorem m_st11 (hx : p.tables.exec = Jvm.exec) (hb : c.code = cc) (hK : Kx D cA s) (hW : MW D cA A o ad F G N X Z H) (hS : va_S A H0 H locs) {z w : Int} (j : Nat) (hz : z = (j : Int)) (hj : j < 160) (hdg : decode cc pc = .ok (.iastore, 1))
    (kk : ∀ (H1 : Heap) (locs1 : List Loc), MW D cA A o ad F G N X (va_up Z j w) H1 → va_S A H0 H1 locs1 → W p l e R s m args below meth c  H1 locs1 cells slots Q (F0 m (pc + 1) ls rest)) : W p l e R s m args below meth c H locs cells slots Q (F0 m pc ls (.int (iI w) :: .int (iI z) :: .ref (ad 11) :: rest)) := by
  refine h_iast hx hb hK hW.a11 hS hW.A11 j hz hj (by decide) hdg (fun H1 locs1 h1 oq z1 hS1 => ?_)
  refine kk H1 locs1 ?_ hS1
  have hno : ∀ k', isA k' → k' ≠ 11 → ∀ i, mval N X (va_up Z j w) k' i = mval N X Z k' i := fun k' _ hne i => mval_neZ hne
  exact hW.setA 11 (by unfold isA; omega) h1 hno oq
end MWS
