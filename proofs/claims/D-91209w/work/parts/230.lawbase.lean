set_option maxRecDepth 100000
/-! the law's world: both sides and the out array in one heap -/
theorem CW.sub {D : va_G} {cA : Nat → ClassId} {A B : Nat → Prop} {sa : Nat → Nat} {ad : Nat → Nat → Nat} {F : Nat → Nat} {N : Nat → Nat → Nat} {Z : Nat → Int} {E : Nat → Nat → Int} {H : Heap} (h : CW D cA A sa ad F N Z E H) (h1 : ∀ k i, Lv F N k i → B (ad k i)) (h2 : ∀ q, H.size ≤ q → B q) : CW D cA B sa ad F N Z E H := ⟨h.1, h1, h.2.2.1, h2⟩
theorem Lv_F {F F' : Nat → Nat} {N : Nat → Nat → Nat} (h2 : F' 2 = F 2) (h3 : F' 3 = F 3) (h4 : F' 4 = F 4) (k i : Nat) : Lv F' N k i ↔ Lv F N k i := by
  unfold Lv TL
  rw [h2, h3, h4]
theorem CW.cgF {D : va_G} {cA : Nat → ClassId} {A : Nat → Prop} {sa : Nat → Nat} {ad : Nat → Nat → Nat} {F F' : Nat → Nat} {N : Nat → Nat → Nat} {Z : Nat → Int} {E : Nat → Nat → Int} {H : Heap} (h : CW D cA A sa ad F N Z E H) (h1 : F' 1 = F 1) (h2 : F' 2 = F 2) (h3 : F' 3 = F 3) (h4 : F' 4 = F 4) (h5 : F' 5 = F 5) : CW D cA A sa ad F' N Z E H := by
  refine ⟨?_, fun k i hl => h.2.1 k i ((Lv_F h2 h3 h4 k i).mp hl), fun k i k' i' hl hl' => h.2.2.1 k i k' i' ((Lv_F h2 h3 h4 k i).mp hl) ((Lv_F h2 h3 h4 k' i').mp hl'), h.2.2.2⟩
  have := h.1
  unfold CWo TL at *
  rw [h1, h2, h3, h4, h5]
  exact this
theorem MW.sub {D : va_G} {cA : Nat → ClassId} {A B : Nat → Prop} {o : Nat} {ad : Nat → Nat} {F G : Nat → Nat} {N X : Nat → Nat → Nat} {Z : Nat → Int} {H : Heap} (h : MW D cA A o ad F G N X Z H) (h1 : B o) (h2 : ∀ k, isA k → B (ad k)) : MW D cA B o ad F G N X Z H := ⟨h.1, h1, fun k hk => ⟨(h.2.2.1 k hk).1, h2 k hk, (h.2.2.1 k hk).2.2⟩, h.2.2.2⟩
/-- the reference's cells -/
def AMs (o : Nat) (ad : Nat → Nat) : Nat → Prop := fun q => q = o ∨ ∃ k, isA k ∧ q = ad k
/-- the component's -/
def ACs (n o oa : Nat) (ad : Nat → Nat) : Nat → Prop := fun q => n ≤ q ∧ ¬ AMs o ad q ∧ q ≠ oa
theorem MW.own {D : va_G} {cA : Nat → ClassId} {A : Nat → Prop} {o : Nat} {ad : Nat → Nat} {F G : Nat → Nat} {N X : Nat → Nat → Nat} {Z : Nat → Int} {H : Heap} (h : MW D cA A o ad F G N X Z H) : MW D cA (AMs o ad) o ad F G N X Z H := h.sub (Or.inl rfl) (fun k hk => Or.inr ⟨k, hk, rfl⟩)
theorem MW.lt {D : va_G} {cA : Nat → ClassId} {A : Nat → Prop} {o : Nat} {ad : Nat → Nat} {F G : Nat → Nat} {N X : Nat → Nat → Nat} {Z : Nat → Int} {H : Heap} (h : MW D cA A o ad F G N X Z H) {q : Nat} (hq : AMs o ad q) : q < H.size := by
  rcases hq with rfl | ⟨k, hk, rfl⟩
  · exact h.1.lt
  · exact (h.2.2.1 k hk).1.lt
/-- both sides, linked -/
def LI (D : va_G) (cA : Nat → ClassId) (sa : Nat → Nat) (n o xo oa : Nat) (ad : Nat → Nat) (H : Heap) : Prop := ∃ (F G : Nat → Nat) (M X C : Nat → Nat → Nat) (Z : Nat → Int) (E : Nat → Nat → Int) (adC : Nat → Nat → Nat) (g : Nat → Int64),
  MW D cA (AMs o ad) o ad F G M X Z H ∧ CW D cA (ACs n o oa ad) sa adC F C Z E H ∧ OC D cA oa g H ∧ adC 0 0 = xo ∧ Rel F M C Z ∧ NB M ∧ FB F ∧ GB G ∧ XB X
/-- a call of the reference leaves the component and out -/
theorem keepC {D : va_G} {cA : Nat → ClassId} {sa : Nat → Nat} {n o oa : Nat} {ad : Nat → Nat} {adC : Nat → Nat → Nat} {F : Nat → Nat} {C : Nat → Nat → Nat} {Z : Nat → Int} {E : Nat → Nat → Int} {H H1 : Heap} (h : CW D cA (ACs n o oa ad) sa adC F C Z E H) (hF : FB F) (hN : NB C) (hz : H.size ≤ H1.size) (hq : ∀ q, q < H.size → ¬ AMs o ad q → H1[q]? = H[q]?) : CW D cA (ACs n o oa ad) sa adC F C Z E H1 :=
  h.keptL (hF 3) hN hz (fun k i hl => hq _ (h.lt (hF 3) hN k i hl) (h.2.1 k i hl).2.1)
/-- a call of the component (or a helper) leaves the reference -/
theorem keepM {D : va_G} {cA : Nat → ClassId} {n o oa : Nat} {ad : Nat → Nat} {F G : Nat → Nat} {M X : Nat → Nat → Nat} {Z : Nat → Int} {H H1 : Heap} (h : MW D cA (AMs o ad) o ad F G M X Z H) (hoa : ¬ AMs o ad oa) (hq : ∀ q, q < H.size → ¬ Ao (ACs n o oa ad) oa q → H1[q]? = H[q]?) : MW D cA (AMs o ad) o ad F G M X Z H1 :=
  h.kept (fun q z => hq q (h.lt z) (fun w => by
    rcases w with w | w
    · exact w.2.1 z
    · exact hoa (w ▸ z)))
section LB
variable {p : Program} {l : Launch} {e : Env} {R : Room} {s : State} {m : MethodId} {args : Array Value} {below : List Frame} {meth : Method} {c : Code} {H H0 : Heap} {locs : List Loc} {cells slots : Nat} {Q : State → Prop} {cc : ByteArray} {pc : Nat} {ls : Array Slot} {rest : List Value} {A : Nat → Prop}
/-- the script's int -/
theorem h_sld (hx : p.tables.exec = Jvm.exec) (hb : c.code = cc) {b L : Nat} {ys : Nat → Int} (hX : va_X b L (fun j => iI (ys j)) s H0) (hbl : b < H0.size) (hbA : ¬ A b) (hS : va_S A H0 H locs) {z : Int} (j : Nat) (hz : z = (j : Int)) (hj : j < L) (hL : L ≤ 448) (hdg : decode cc pc = .ok (.iaload, 1))
    (kk : W p l e R s m args below meth c H locs cells slots Q (F0 m (pc + 1) ls (.int (iI (ys j)) :: rest))) : W p l e R s m args below meth c H locs cells slots Q (F0 m pc ls (.int (iI z) :: .ref b :: rest)) := by
  subst hz
  refine va_sld hx hb hX hbl hbA hS (iI_in hj (by omega)) hdg ?_
  rw [iI_clamp (by omega)]
  exact kk
theorem h_slen (hx : p.tables.exec = Jvm.exec) (hb : c.code = cc) {b L : Nat} {xs : Nat → Int32} (hX : va_X b L xs s H0) (hbl : b < H0.size) (hbA : ¬ A b) (hS : va_S A H0 H locs) (hdg : decode cc pc = .ok (.arraylength, 1))
    (kk : W p l e R s m args below meth c H locs cells slots Q (F0 m (pc + 1) ls (.int (iI (L : Int)) :: rest))) : W p l e R s m args below meth c H locs cells slots Q (F0 m pc ls (.ref b :: rest)) := by
  refine va_slen hx hb hX hbl hbA hS hdg ?_
  rw [show Int32.ofNat L = iI (L : Int) from (iI_nat L).symm]
  exact kk
theorem iI_toInt_self (x : Int32) : iI x.toInt = x := Int32.ofInt_toInt x
theorem inR_toInt (x : Int32) : inR x.toInt := by
  have h1 := Int32.le_toInt x
  have h2 := Int32.toInt_lt x
  unfold inR
  constructor
  · exact h1
  · have : (2 : Int) ^ 31 = 2147483648 := by decide
    omega
/-- two longs that are one -/
theorem l_same (hx : p.tables.exec = Jvm.exec) (hb : c.code = cc) {x : Int64} (hdg : decode cc pc = .ok (.lcmp, 1)) (k : W p l e R s m args below meth c H locs cells slots Q (F0 m (pc + 1) ls (.int (iI 0) :: rest))) : W p l e R s m args below meth c H locs cells slots Q (F0 m pc ls (.long x :: .long x :: rest)) := by
  refine W.lcmp hx hb hdg ?_
  rw [show lg_cmp x x = iI 0 from (lg_cmp_eq x x).mpr rfl]
  exact k
end LB
