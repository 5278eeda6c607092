set_option maxRecDepth 100000
/-! the component's world: ad its addresses by kind and number (0: the object, its two tables; 1, 2: lists and their arrays: 0 .. 3 its own, 10 + t the stops of t, 100 + w the legs of w; 3 stations, 4 trains, 5 loads, 6 stops, 7 boxes, 8 trips, 9 legs);
F, N, Z as the reference's, but row 23 holds a train's isUsed, row 25 a trip's state (0 NEW, 1 LED, 2 STANDS); E 1, E 2 the tables -/
def TL (F : Nat → Nat) (N : Nat → Nat → Nat) (w : Nat) : Prop := w / 2 < F 4 ∧ (w % 2 = 0 ∨ N 21 (w / 2) ≠ 0)
def frW (N : Nat → Nat → Nat) (w : Nat) : Nat := if w % 2 = 0 then N 14 (w / 2) else N 17 (w / 2)
def toW (N : Nat → Nat → Nat) (w : Nat) : Nat := if w % 2 = 0 then N 17 (w / 2) else N 14 (w / 2)
def rdW (N : Nat → Nat → Nat) (w : Nat) : Nat := if w % 2 = 0 then N 16 (w / 2) else N 20 (w / 2)
def wfW (N : Nat → Nat → Nat) (w : Nat) : Nat := if w % 2 = 0 then N 15 (w / 2) else N 18 (w / 2)
def wtW (N : Nat → Nat → Nat) (w : Nat) : Nat := if w % 2 = 0 then N 18 (w / 2) else N 15 (w / 2)
def duW (N : Nat → Nat → Nat) (w : Nat) : Nat := if w % 2 = 0 then N 19 (w / 2) else 1439
def bgW (N : Nat → Nat → Nat) (w : Nat) : Nat := rdW N w + wfW N w + N 6 (frW N w)
/-- which of them there are -/
def Lv (F : Nat → Nat) (N : Nat → Nat → Nat) (k i : Nat) : Prop := match k with
  | 0 => i < 3
  | 1 => i < 4 ∨ (10 ≤ i ∧ i < 10 + F 3 ∧ i < 26) ∨ (100 ≤ i ∧ TL F N (i - 100))
  | 2 => i < 4 ∨ (10 ≤ i ∧ i < 10 + F 3 ∧ i < 26) ∨ (100 ≤ i ∧ TL F N (i - 100))
  | 3 => i < F 2
  | 4 => i < F 3
  | 5 => i < F 3
  | 6 => i / 10 < F 3 ∧ i % 10 < N 8 (i / 10)
  | 7 => i < F 4
  | 8 => TL F N i
  | 9 => TL F N (i / 3) ∧ i % 3 < N 24 (i / 3)
  | _ => False
/-- a list of the component -/
def Lst (D : va_G) (cA : Nat → ClassId) (ad : Nat → Nat → Nat) (i sz : Nat) (f : Nat → Nat) (H : Heap) : Prop := ∃ (mc : Int) (cap : Nat), 1 ≤ cap ∧ cap ≤ 90 ∧ LiS D cA (ad 1 i) mc (ad 2 i) sz cap f H
theorem Lst.kept {D : va_G} {cA : Nat → ClassId} {ad : Nat → Nat → Nat} {i sz : Nat} {f : Nat → Nat} {H H1 : Heap} (h : Lst D cA ad i sz f H) (h1 : H1[ad 1 i]? = H[ad 1 i]?) (h2 : H1[ad 2 i]? = H[ad 2 i]?) : Lst D cA ad i sz f H1 := by
  obtain ⟨mc, cap, c1, c2, q1, q2, q3⟩ := h
  exact ⟨mc, cap, c1, c2, q1.kept h1, q2.kept h2, q3⟩
theorem Lst.to {D : va_G} {cA : Nat → ClassId} {ad ad' : Nat → Nat → Nat} {i sz : Nat} {f g : Nat → Nat} {H : Heap} (h : Lst D cA ad i sz f H) (h1 : ad' 1 i = ad 1 i) (h2 : ad' 2 i = ad 2 i) (hg : ∀ j, j < sz → f j = g j) : Lst D cA ad' i sz g H := by
  obtain ⟨mc, cap, c1, c2, q1, q2, q3⟩ := h
  refine ⟨mc, cap, c1, c2, ?_⟩
  rw [h1, h2]
  exact ⟨q1, by rw [← gl_ext hg]; exact q2, q3⟩
theorem Lst.lt1 {D : va_G} {cA : Nat → ClassId} {ad : Nat → Nat → Nat} {i sz : Nat} {f : Nat → Nat} {H : Heap} (h : Lst D cA ad i sz f H) : ad 1 i < H.size := by
  obtain ⟨mc, cap, c1, c2, q1, q2, q3⟩ := h
  exact q1.lt
theorem Lst.lt2 {D : va_G} {cA : Nat → ClassId} {ad : Nat → Nat → Nat} {i sz : Nat} {f : Nat → Nat} {H : Heap} (h : Lst D cA ad i sz f H) : ad 2 i < H.size := by
  obtain ⟨mc, cap, c1, c2, q1, q2, q3⟩ := h
  exact q2.lt
theorem arr_to {D : va_G} {c : ClassId} {a n : Nat} {f g : Nat → Int32} {H : Heap} (h : va_at D CL (a, .inl (c, n, .inl f)) H) (hg : ∀ j, j < n → f j = g j) : va_at D CL (a, .inl (c, n, .inl g)) H := by
  have h : H[a]? = some (arrV c n (fun j => .int (f j))) := h
  show H[a]? = some (arrV c n (fun j => .int (g j)))
  rw [h]
  congr 1
  unfold arrV
  congr 1
  apply Array.ext
  · simp
  · intro i h1 h2
    simp only [Array.size_ofFn] at h1
    simp [hg i h1]
abbrev eX (ad : Nat → Nat → Nat) (now : Nat) : va_E := .inr (1, [.ref (ad 1 0), .ref (ad 1 1), .ref (ad 1 2), .ref (ad 1 3), .int (iI (now : Int)), .ref (ad 0 1), .ref (ad 0 2)])
abbrev eI (cA : Nat → ClassId) (n : Nat) (f : Nat → Int) : va_E := .inl (cA 0, n, .inl (fun j => iI (f j)))
abbrev eS (j s : Nat) : va_E := .inr (2, [.int (iI (j : Int)), .int (iI (s : Int))])
abbrev eT (ad : Nat → Nat → Nat) (N : Nat → Nat → Nat) (t : Nat) : va_E := .inr (3, [.int (iI (t : Int)), .int (iI (N 7 t : Int)), .ref (ad 1 (10 + t)), .ref (ad 5 t), .int (iI (N 13 t : Int)), .int (iI (N 23 t : Int))])
abbrev eP (ad : Nat → Nat → Nat) (N : Nat → Nat → Nat) (n : Nat) : va_E := .inr (4, [.ref (ad 3 (N 9 n)), .int (iI (N 10 n : Int))])
abbrev eB (ad : Nat → Nat → Nat) (N : Nat → Nat → Nat) (b : Nat) : va_E := .inr (5, [.ref (ad 8 (2 * b)), .ref (ad 3 (N 14 b)), .ref (ad 3 (N 17 b)), .int (iI (N 15 b : Int)), .int (iI (N 18 b : Int)), if N 21 b = 0 then .null else .ref (ad 8 (2 * b + 1))])
abbrev eW (ad : Nat → Nat → Nat) (sa : Nat → Nat) (N : Nat → Nat → Nat) (w : Nat) : va_E := .inr (6, [.ref (ad 3 (frW N w)), .ref (ad 3 (toW N w)), .int (iI (rdW N w : Int)), .int (iI (bgW N w : Int)), .int (iI (wtW N w : Int)), .int (iI (duW N w : Int)), .ref (ad 1 (100 + w)), .ref (sa (N 25 w)), .int (iI (N 26 w : Int))])
abbrev eG (ad : Nat → Nat → Nat) (N : Nat → Nat → Nat) (n : Nat) : va_E := .inr (7, [.ref (ad 4 (N 27 n)), .int (iI (N 28 n : Int)), .int (iI (N 29 n : Int))])
/-- the cells, each by its kind -/
def CWo (D : va_G) (cA : Nat → ClassId) (sa : Nat → Nat) (ad : Nat → Nat → Nat) (F : Nat → Nat) (N : Nat → Nat → Nat) (Z : Nat → Int) (E : Nat → Nat → Int) (H : Heap) : Prop :=
  va_at D CL (ad 0 0, eX ad (F 1)) H ∧ va_at D CL (ad 0 1, eI cA 40 (E 1)) H ∧ va_at D CL (ad 0 2, eI cA 40 (E 2)) H ∧
  Lst D cA ad 0 (F 2) (ad 3) H ∧ Lst D cA ad 1 (F 3) (ad 4) H ∧ Lst D cA ad 2 (F 4) (ad 7) H ∧ Lst D cA ad 3 (F 5) (fun j => sa (10 + (128 + N 12 j))) H ∧
  (∀ j, j < F 2 → va_at D CL (ad 3 j, eS j (N 6 j)) H) ∧
  (∀ t, t < F 3 → va_at D CL (ad 4 t, eT ad N t) H) ∧ (∀ t, t < F 3 → va_at D CL (ad 5 t, eI cA 10 (fun j => Z (10 * t + j))) H) ∧ (∀ t, t < F 3 → Lst D cA ad (10 + t) (N 8 t) (fun j => ad 6 (10 * t + j)) H) ∧
  (∀ t k, t < F 3 → k < N 8 t → va_at D CL (ad 6 (10 * t + k), eP ad N (10 * t + k)) H) ∧
  (∀ b, b < F 4 → va_at D CL (ad 7 b, eB ad N b) H) ∧
  (∀ w, TL F N w → va_at D CL (ad 8 w, eW ad sa N w) H) ∧ (∀ w, TL F N w → Lst D cA ad (100 + w) (N 24 w) (fun j => ad 9 (3 * w + j)) H) ∧
  (∀ w i, TL F N w → i < N 24 w → va_at D CL (ad 9 (3 * w + i), eG ad N (3 * w + i)) H)
def CWa (A : Nat → Prop) (ad : Nat → Nat → Nat) (F : Nat → Nat) (N : Nat → Nat → Nat) (H : Heap) : Prop :=
  (∀ k i, Lv F N k i → A (ad k i)) ∧ (∀ k i k' i', Lv F N k i → Lv F N k' i' → ad k i = ad k' i' → k = k' ∧ i = i') ∧ (∀ q, H.size ≤ q → A q)
/-- what the numbers say of each other -/
def WF (F : Nat → Nat) (N : Nat → Nat → Nat) : Prop :=
  (∀ t k, t < F 3 → k < N 8 t → N 9 (10 * t + k) < F 2) ∧ (∀ b, b < F 4 → N 14 b < F 2 ∧ N 17 b < F 2) ∧
  (∀ w i, TL F N w → i < N 24 w → N 27 (3 * w + i) < F 3 ∧ N 28 (3 * w + i) < N 29 (3 * w + i) ∧ N 29 (3 * w + i) < N 8 (N 27 (3 * w + i))) ∧ (∀ w, N 25 w ≤ 2)
def CW (D : va_G) (cA : Nat → ClassId) (A : Nat → Prop) (sa : Nat → Nat) (ad : Nat → Nat → Nat) (F : Nat → Nat) (N : Nat → Nat → Nat) (Z : Nat → Int) (E : Nat → Nat → Int) (H : Heap) : Prop := CWo D cA sa ad F N Z E H ∧ CWa A ad F N H
section CWS
variable {D : va_G} {cA : Nat → ClassId} {A : Nat → Prop} {sa : Nat → Nat} {ad : Nat → Nat → Nat} {F : Nat → Nat} {N : Nat → Nat → Nat} {Z : Nat → Int} {E : Nat → Nat → Int} {H : Heap}
theorem CW.c0 (h : CW D cA A sa ad F N Z E H) : va_at D CL (ad 0 0, eX ad (F 1)) H := h.1.1
theorem CW.c1 (h : CW D cA A sa ad F N Z E H) : va_at D CL (ad 0 1, eI cA 40 (E 1)) H := h.1.2.1
theorem CW.c2 (h : CW D cA A sa ad F N Z E H) : va_at D CL (ad 0 2, eI cA 40 (E 2)) H := h.1.2.2.1
theorem CW.l0 (h : CW D cA A sa ad F N Z E H) : Lst D cA ad 0 (F 2) (ad 3) H := h.1.2.2.2.1
theorem CW.l1 (h : CW D cA A sa ad F N Z E H) : Lst D cA ad 1 (F 3) (ad 4) H := h.1.2.2.2.2.1
theorem CW.l2 (h : CW D cA A sa ad F N Z E H) : Lst D cA ad 2 (F 4) (ad 7) H := h.1.2.2.2.2.2.1
theorem CW.l3 (h : CW D cA A sa ad F N Z E H) : Lst D cA ad 3 (F 5) (fun j => sa (10 + (128 + N 12 j))) H := h.1.2.2.2.2.2.2.1
theorem CW.k3 (h : CW D cA A sa ad F N Z E H) (j : Nat) (hj : j < F 2) : va_at D CL (ad 3 j, eS j (N 6 j)) H := h.1.2.2.2.2.2.2.2.1 j hj
theorem CW.k4 (h : CW D cA A sa ad F N Z E H) (t : Nat) (ht : t < F 3) : va_at D CL (ad 4 t, eT ad N t) H := h.1.2.2.2.2.2.2.2.2.1 t ht
theorem CW.k5 (h : CW D cA A sa ad F N Z E H) (t : Nat) (ht : t < F 3) : va_at D CL (ad 5 t, eI cA 10 (fun j => Z (10 * t + j))) H := h.1.2.2.2.2.2.2.2.2.2.1 t ht
theorem CW.lp (h : CW D cA A sa ad F N Z E H) (t : Nat) (ht : t < F 3) : Lst D cA ad (10 + t) (N 8 t) (fun j => ad 6 (10 * t + j)) H := h.1.2.2.2.2.2.2.2.2.2.2.1 t ht
theorem CW.k6 (h : CW D cA A sa ad F N Z E H) (t k : Nat) (ht : t < F 3) (hk : k < N 8 t) : va_at D CL (ad 6 (10 * t + k), eP ad N (10 * t + k)) H := h.1.2.2.2.2.2.2.2.2.2.2.2.1 t k ht hk
theorem CW.k7 (h : CW D cA A sa ad F N Z E H) (b : Nat) (hb : b < F 4) : va_at D CL (ad 7 b, eB ad N b) H := h.1.2.2.2.2.2.2.2.2.2.2.2.2.1 b hb
theorem CW.k8 (h : CW D cA A sa ad F N Z E H) (w : Nat) (hw : TL F N w) : va_at D CL (ad 8 w, eW ad sa N w) H := h.1.2.2.2.2.2.2.2.2.2.2.2.2.2.1 w hw
theorem CW.lg (h : CW D cA A sa ad F N Z E H) (w : Nat) (hw : TL F N w) : Lst D cA ad (100 + w) (N 24 w) (fun j => ad 9 (3 * w + j)) H := h.1.2.2.2.2.2.2.2.2.2.2.2.2.2.2.1 w hw
theorem CW.k9 (h : CW D cA A sa ad F N Z E H) (w i : Nat) (hw : TL F N w) (hi : i < N 24 w) : va_at D CL (ad 9 (3 * w + i), eG ad N (3 * w + i)) H := h.1.2.2.2.2.2.2.2.2.2.2.2.2.2.2.2 w i hw hi
theorem CW.hA (h : CW D cA A sa ad F N Z E H) (k i : Nat) (hl : Lv F N k i) : A (ad k i) := h.2.1 k i hl
theorem CW.ne (h : CW D cA A sa ad F N Z E H) {k i k' i' : Nat} (hl : Lv F N k i) (hl' : Lv F N k' i') (hn : k ≠ k' ∨ i ≠ i') : ad k i ≠ ad k' i' := fun e => by
  have := h.2.2.1 k i k' i' hl hl' e
  omega
theorem CW.inj (h : CW D cA A sa ad F N Z E H) {k i i' : Nat} (hl : Lv F N k i) (hl' : Lv F N k i') : ad k i = ad k i' ↔ i = i' := ⟨fun e => (h.2.2.1 k i k i' hl hl' e).2, fun e => by rw [e]⟩
theorem CW.k7n (h : CW D cA A sa ad F N Z E H) (b : Nat) (hb : b < F 4) (h0 : N 21 b = 0) : va_at D CL (ad 7 b, .inr (5, [.ref (ad 8 (2 * b)), .ref (ad 3 (N 14 b)), .ref (ad 3 (N 17 b)), .int (iI (N 15 b : Int)), .int (iI (N 18 b : Int)), .null])) H := by
  have q := h.k7 b hb
  rw [eB, if_pos h0] at q
  exact q
theorem CW.k7s (h : CW D cA A sa ad F N Z E H) (b : Nat) (hb : b < F 4) (h0 : N 21 b ≠ 0) : va_at D CL (ad 7 b, .inr (5, [.ref (ad 8 (2 * b)), .ref (ad 3 (N 14 b)), .ref (ad 3 (N 17 b)), .int (iI (N 15 b : Int)), .int (iI (N 18 b : Int)), .ref (ad 8 (2 * b + 1))])) H := by
  have q := h.k7 b hb
  rw [eB, if_neg h0] at q
  exact q
/-! which there are, as numbers -/
theorem lv_l0 (i : Nat) (h : i < 4) : Lv F N 1 i := Or.inl h
theorem lv_e0 (i : Nat) (h : i < 4) : Lv F N 2 i := Or.inl h
theorem lv_lp {t : Nat} (h : t < F 3) (h2 : t < 16) : Lv F N 1 (10 + t) := Or.inr (Or.inl ⟨by omega, by omega, by omega⟩)
theorem lv_ep {t : Nat} (h : t < F 3) (h2 : t < 16) : Lv F N 2 (10 + t) := Or.inr (Or.inl ⟨by omega, by omega, by omega⟩)
theorem lv_lg {w : Nat} (h : TL F N w) : Lv F N 1 (100 + w) := Or.inr (Or.inr ⟨by omega, by rw [show 100 + w - 100 = w by omega]; exact h⟩)
theorem lv_eg {w : Nat} (h : TL F N w) : Lv F N 2 (100 + w) := Or.inr (Or.inr ⟨by omega, by rw [show 100 + w - 100 = w by omega]; exact h⟩)
theorem lv_6 {t k : Nat} (ht : t < F 3) (hk : k < N 8 t) (h10 : N 8 t ≤ 10) : Lv F N 6 (10 * t + k) := by
  show (10 * t + k) / 10 < F 3 ∧ (10 * t + k) % 10 < N 8 ((10 * t + k) / 10)
  rw [show (10 * t + k) / 10 = t by omega, show (10 * t + k) % 10 = k by omega]
  exact ⟨ht, hk⟩
theorem lv_9 {w i : Nat} (hw : TL F N w) (hi : i < N 24 w) (h3 : N 24 w ≤ 3) : Lv F N 9 (3 * w + i) := by
  show TL F N ((3 * w + i) / 3) ∧ (3 * w + i) % 3 < N 24 ((3 * w + i) / 3)
  rw [show (3 * w + i) / 3 = w by omega, show (3 * w + i) % 3 = i by omega]
  exact ⟨hw, hi⟩
theorem TL_0 {b : Nat} (h : b < F 4) : TL F N (2 * b) := ⟨by omega, Or.inl (by omega)⟩
theorem TL_1 {b : Nat} (h : b < F 4) (h1 : N 21 b ≠ 0) : TL F N (2 * b + 1) := ⟨by omega, Or.inr (by rw [show (2 * b + 1) / 2 = b by omega]; exact h1)⟩
theorem TL_way (hN : NB N) {b : Nat} (h : b < F 4) : TL F N (wayN N b) := by
  have h1 : N 21 b ≤ 1 := hN 21 b
  unfold wayN
  rcases (by omega : N 21 b = 0 ∨ N 21 b = 1) with q | q
  · rw [q]; exact TL_0 h
  · rw [q]; exact TL_1 h (by omega)
/-- all addresses are of cells that are there -/
theorem CW.lt (h : CW D cA A sa ad F N Z E H) (hF : F 3 ≤ 16) (hN : NB N) : ∀ (k i : Nat), Lv F N k i → ad k i < H.size
  | 0, i, hl => by
    have hl : i < 3 := hl
    rcases (by omega : i = 0 ∨ i = 1 ∨ i = 2) with rfl | rfl | rfl
    · exact h.c0.lt
    · exact h.c1.lt
    · exact h.c2.lt
  | 1, i, hl => by
    rcases hl with hl | hl | hl
    · rcases (by omega : i = 0 ∨ i = 1 ∨ i = 2 ∨ i = 3) with rfl | rfl | rfl | rfl
      · exact h.l0.lt1
      · exact h.l1.lt1
      · exact h.l2.lt1
      · exact h.l3.lt1
    · have := (h.lp (i - 10) (by omega)).lt1
      rw [show 10 + (i - 10) = i by omega] at this
      exact this
    · have := (h.lg (i - 100) hl.2).lt1
      rw [show 100 + (i - 100) = i by omega] at this
      exact this
  | 2, i, hl => by
    rcases hl with hl | hl | hl
    · rcases (by omega : i = 0 ∨ i = 1 ∨ i = 2 ∨ i = 3) with rfl | rfl | rfl | rfl
      · exact h.l0.lt2
      · exact h.l1.lt2
      · exact h.l2.lt2
      · exact h.l3.lt2
    · have := (h.lp (i - 10) (by omega)).lt2
      rw [show 10 + (i - 10) = i by omega] at this
      exact this
    · have := (h.lg (i - 100) hl.2).lt2
      rw [show 100 + (i - 100) = i by omega] at this
      exact this
  | 3, i, hl => (h.k3 i hl).lt
  | 4, i, hl => (h.k4 i hl).lt
  | 5, i, hl => (h.k5 i hl).lt
  | 6, i, hl => by
    have := (h.k6 (i / 10) (i % 10) hl.1 hl.2).lt
    rw [show 10 * (i / 10) + i % 10 = i by omega] at this
    exact this
  | 7, i, hl => (h.k7 i hl).lt
  | 8, i, hl => (h.k8 i hl).lt
  | 9, i, hl => by
    have := (h.k9 (i / 3) (i % 3) hl.1 hl.2).lt
    rw [show 3 * (i / 3) + i % 3 = i by omega] at this
    exact this
  | _ + 10, i, hl => hl.elim
/-- the cells are as they were where the heap is -/
theorem CWo.kept {H1 : Heap} (h : CWo D cA sa ad F N Z E H) (hF : F 3 ≤ 16) (hN : NB N) (kp : ∀ k i, Lv F N k i → H1[ad k i]? = H[ad k i]?) : CWo D cA sa ad F N Z E H1 := by
  obtain ⟨h0, h1, h2, l0, l1, l2, l3, k3, k4, k5, lp, k6, k7, k8, lg, k9⟩ := h
  exact ⟨h0.kept (kp 0 0 (by show 0 < 3; omega)), h1.kept (kp 0 1 (by show 1 < 3; omega)), h2.kept (kp 0 2 (by show 2 < 3; omega)),
    l0.kept (kp _ _ (lv_l0 0 (by omega))) (kp _ _ (lv_e0 0 (by omega))), l1.kept (kp _ _ (lv_l0 1 (by omega))) (kp _ _ (lv_e0 1 (by omega))), l2.kept (kp _ _ (lv_l0 2 (by omega))) (kp _ _ (lv_e0 2 (by omega))), l3.kept (kp _ _ (lv_l0 3 (by omega))) (kp _ _ (lv_e0 3 (by omega))),
    fun j hj => (k3 j hj).kept (kp 3 j hj), fun t ht => (k4 t ht).kept (kp 4 t ht), fun t ht => (k5 t ht).kept (kp 5 t ht), fun t ht => (lp t ht).kept (kp _ _ (lv_lp ht (by omega))) (kp _ _ (lv_ep ht (by omega))),
    fun t k ht hk => (k6 t k ht hk).kept (kp _ _ (lv_6 ht hk (hN 8 t))), fun b hb => (k7 b hb).kept (kp 7 b hb), fun w hw => (k8 w hw).kept (kp 8 w hw), fun w hw => (lg w hw).kept (kp _ _ (lv_lg hw)) (kp _ _ (lv_eg hw)), fun w i hw hi => (k9 w i hw hi).kept (kp _ _ (lv_9 hw hi (hN 24 w)))⟩
theorem CW.kept {H1 : Heap} (h : CW D cA A sa ad F N Z E H) (hF : F 3 ≤ 16) (hN : NB N) (hz : H.size ≤ H1.size) (hq : ∀ q, q < H.size → A q → H1[q]? = H[q]?) : CW D cA A sa ad F N Z E H1 :=
  ⟨h.1.kept hF hN (fun k i hl => hq _ (h.lt hF hN k i hl) (h.hA k i hl)), h.2.1, h.2.2.1, fun q h1 => h.2.2.2 q (by omega)⟩
end CWS
/-- the start of a contract of the component -/
def PC (D : va_G) (cA : Nat → ClassId) (A : Nat → Prop) (sa : Nat → Nat) (ad : Nat → Nat → Nat) (F : Nat → Nat) (N : Nat → Nat → Nat) (Z : Nat → Int) (E : Nat → Nat → Int) (av : List Value) : Array Value → State → Prop := Pq D cA av (fun U => SX A sa U ∧ CW D cA A sa ad F N Z E U.heap)
theorem PC.blind {D : va_G} {cA : Nat → ClassId} {A : Nat → Prop} {sa : Nat → Nat} {ad : Nat → Nat → Nat} {F : Nat → Nat} {N : Nat → Nat → Nat} {Z : Nat → Int} {E : Nat → Nat → Int} {av : List Value} : FrameBlind (PC D cA A sa ad F N Z E av) := Pq.blind (fun U g mk a h => ⟨h.1.blind, h.2⟩)
theorem preVC {D : va_G} {cA : Nat → ClassId} {A : Nat → Prop} {sa : Nat → Nat} {ad : Nat → Nat → Nat} {F : Nat → Nat} {N : Nat → Nat → Nat} {Z : Nat → Int} {E : Nat → Nat → Int} {s : State} {H : Heap} {locs : List Loc} {b ci : Nat} {q : vw_C} {fs : List Value} {As : List Value} (hK : Kx D cA s) (hSX : SX A sa s) (hS : va_S A s.heap H locs) (hP : va_at D CL (b, .inr (ci, fs)) H) (hc : CL[ci]? = some q) (hW : CW D cA A sa ad F N Z E H) : PreV s H q.1 b (PC D cA A sa ad F N Z E (.ref b :: As)) As :=
  ⟨PC.blind, va_recv hK.1 (va_P1 hP) hc (q0 := 0) rfl, fun U hU hWm => ⟨rfl, hK.moved hWm, hSX.call hS hU hWm.alike, by rw [hU]; exact hW⟩⟩
theorem preSC {D : va_G} {cA : Nat → ClassId} {A : Nat → Prop} {sa : Nat → Nat} {ad : Nat → Nat → Nat} {F : Nat → Nat} {N : Nat → Nat → Nat} {Z : Nat → Int} {E : Nat → Nat → Int} {s : State} {H : Heap} {locs : List Loc} {As : List Value} (hK : Kx D cA s) (hSX : SX A sa s) (hS : va_S A s.heap H locs) (hW : CW D cA A sa ad F N Z E H) : PreS s H (PC D cA A sa ad F N Z E As) As :=
  ⟨PC.blind, fun U hU hWm => ⟨rfl, hK.moved hWm, hSX.call hS hU hWm.alike, by rw [hU]; exact hW⟩⟩
theorem SX.ne {A : Nat → Prop} {sa : Nat → Nat} {U : State} (h : SX A sa U) {i j : Nat} (hi : i ≤ 2) (hj : j ≤ 2) : sa i = sa j ↔ i = j := by
  obtain ⟨-, -, -, -, -, -, -, h0, h1, h2⟩ := h
  refine ⟨fun e => ?_, fun e => by rw [e]⟩
  rcases (by omega : i = 0 ∨ i = 1 ∨ i = 2) with rfl | rfl | rfl <;> rcases (by omega : j = 0 ∨ j = 1 ∨ j = 2) with rfl | rfl | rfl <;> first | rfl | exact absurd e h0 | exact absurd e h1 | exact absurd e h2 | exact absurd e.symm h0 | exact absurd e.symm h1 | exact absurd e.symm h2
section CAST
variable {p : Program} {l : Launch} {e : Env} {R : Room} {s : State} {m : MethodId} {args : Array Value} {below : List Frame} {meth : Method} {c : Code} {H : Heap} {locs : List Loc} {cells slots : Nat} {Q : State → Prop} {cc : ByteArray} {pc : Nat} {ls : Array Slot} {rest : List Value} {D : va_G} {cA : Nat → ClassId} {a : Nat}
theorem h_cast (hx : p.tables.exec = Jvm.exec) (hb : c.code = cc) {own : String} {index ci : Nat} {q : vw_C} (hown : s.vm.findClass own = some m.cls) (hlink : (Cond.classLink own index q.1).before args s = true) (hK : Kx D cA s) (hc : CL[ci]? = some q) (h : isO D ci a H) (hdg : decode cc pc = .ok (.checkcast index, 3)) (k : W p l e R s m args below meth c H locs cells slots Q (F0 m (pc + 3) ls (.ref a :: rest))) : W p l e R s m args below meth c H locs cells slots Q (F0 m pc ls (.ref a :: rest)) :=
  va_castS hx hb hown hlink (hK.1.1 ci q hc).2 (isO.recv hK hc h) hdg k
theorem r_acmp_eq (hx : p.tables.exec = Jvm.exec) (hb : c.code = cc) {x y : Nat} {off : Int} {tgt : Nat} {P : Prop} (hP : x = y ↔ P) (hdg : decode cc pc = .ok (.if_acmp .eq off, 3)) (ht : (pc : Int) + off = (tgt : Int)) (kt : P → W p l e R s m args below meth c H locs cells slots Q (F0 m tgt ls rest)) (kf : ¬ P → W p l e R s m args below meth c H locs cells slots Q (F0 m (pc + 3) ls rest)) : W p l e R s m args below meth c H locs cells slots Q (F0 m pc ls (.ref y :: .ref x :: rest)) :=
  lv_acmp_eq (rx := some x) (ry := some y) hx hb hdg ht (fun e => kt (hP.mp (Option.some.inj e))) (fun e => kf (fun q => e (by rw [hP.mpr q])))
theorem r_acmp_ne (hx : p.tables.exec = Jvm.exec) (hb : c.code = cc) {x y : Nat} {off : Int} {tgt : Nat} {P : Prop} (hP : x = y ↔ P) (hdg : decode cc pc = .ok (.if_acmp .ne off, 3)) (ht : (pc : Int) + off = (tgt : Int)) (kt : ¬ P → W p l e R s m args below meth c H locs cells slots Q (F0 m tgt ls rest)) (kf : P → W p l e R s m args below meth c H locs cells slots Q (F0 m (pc + 3) ls rest)) : W p l e R s m args below meth c H locs cells slots Q (F0 m pc ls (.ref y :: .ref x :: rest)) :=
  lv_acmp_ne (rx := some x) (ry := some y) hx hb hdg ht (fun e => kt (fun q => e (by rw [hP.mpr q]))) (fun e => kf (hP.mp (Option.some.inj e)))
end CAST
