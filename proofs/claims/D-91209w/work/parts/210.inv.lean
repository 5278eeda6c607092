set_option maxRecDepth 100000
/-! what the component's numbers say of each other all through a run -/
/-- leg i of way w covers the load x -/
def cvP (N : Nat → Nat → Nat) (w x i : Nat) : Bool := decide (10 * N 27 (3 * w + i) + N 28 (3 * w + i) ≤ x ∧ x < 10 * N 27 (3 * w + i) + N 29 (3 * w + i))
def cvS (N : Nat → Nat → Nat) (x : Nat) : Nat → Int
  | 0 => 0
  | n + 1 => cvS N x n + (cntB (cvP N n x) (N 24 n) : Nat)
def chn (T : Nat) (N : Nat → Nat → Nat) : Nat → List (Nat × Nat × Nat) → Prop
  | _, [] => True
  | m, q :: L => q.1 < T ∧ q.2.1 < q.2.2 ∧ q.2.2 < N 8 q.1 ∧ m ≤ N 10 (10 * q.1 + q.2.1) ∧ chn T N (qb N q) L
/-- without the trains' isUsed -/
def Iv1 (F : Nat → Nat) (N : Nat → Nat → Nat) : Prop :=
  WF F N ∧ NB N ∧ (∀ w, ¬ TL F N w → N 24 w = 0 ∧ N 25 w = 0 ∧ N 26 w = 0) ∧ (∀ b, F 4 ≤ b → N 21 b = 0) ∧ (∀ t, F 3 ≤ t → N 8 t = 0 ∧ N 13 t = 0) ∧
  (∀ t i j, t < F 3 → i < j → j < N 8 t → N 10 (10 * t + i) < N 10 (10 * t + j)) ∧ (∀ w i, i + 1 < N 24 w → legB N (3 * w + i) ≤ onM N w (i + 1))
def Iv (F : Nat → Nat) (N : Nat → Nat → Nat) (Z : Nat → Int) : Prop := Iv1 F N ∧ ∀ x, Z x = cvS N x 120
/-- a train on which there is a leg is used -/
def Us (F : Nat → Nat) (N : Nat → Nat → Nat) : Prop := (∀ t, F 3 ≤ t → N 23 t = 0) ∧ ∀ w i, i < N 24 w → N 23 (N 27 (3 * w + i)) = 1
theorem cvS_B {N : Nat → Nat → Nat} (hN : NB N) (x : Nat) : ∀ n, 0 ≤ cvS N x n ∧ cvS N x n ≤ (3 * n : Nat)
  | 0 => ⟨Int.le_refl _, Int.le_refl _⟩
  | n + 1 => by
    have ih := cvS_B hN x n
    have h1 := cntB_le (cvP N n x) (N 24 n)
    have h2 : N 24 n ≤ 3 := hN 24 n
    unfold cvS
    omega
theorem Iv.ZB {F : Nat → Nat} {N : Nat → Nat → Nat} {Z : Nat → Int} (h : Iv F N Z) : ZB 360 Z := by
  intro x
  have := cvS_B h.1.2.1 x 120
  rw [h.2 x]
  omega
theorem cntB_add (P : Nat → Bool) (a : Nat) : ∀ n, cntB P (a + n) = cntB P a + cntB (fun i => P (a + i)) n
  | 0 => rfl
  | n + 1 => by
    show cntB P (a + n) + (if P (a + n) = true then 1 else 0) = cntB P a + (cntB (fun i => P (a + i)) n + (if P (a + n) = true then 1 else 0))
    rw [cntB_add P a n]
    omega
theorem cntB_eq {P P' : Nat → Bool} : ∀ n, (∀ i, i < n → P i = P' i) → cntB P n = cntB P' n
  | 0, _ => rfl
  | n + 1, h => by
    unfold cntB
    rw [cntB_eq n (fun i hi => h i (by omega)), h n (by omega)]
theorem ldZ_cnt {N : Nat → Nat → Nat} {w : Nat} {v : Int} {a : Nat} (Z : Nat → Int) (x : Nat) : ∀ n, ldZ N w v a n Z x = Z x + v * (cntB (fun i => cvP N w x (a + i)) n : Nat)
  | 0 => by simp [ldZ, cntB]
  | n + 1 => by
    unfold ldZ adZ cntB
    rw [ldZ_cnt Z x n]
    by_cases h : 10 * N 27 (3 * w + (a + n)) + N 28 (3 * w + (a + n)) ≤ x ∧ x < 10 * N 27 (3 * w + (a + n)) + N 29 (3 * w + (a + n))
    · rw [if_pos h, if_pos (show cvP N w x (a + n) = true from decide_eq_true h)]
      rw [show ((cntB (fun i => cvP N w x (a + i)) n + 1 : Nat) : Int) = (cntB (fun i => cvP N w x (a + i)) n : Nat) + 1 from rfl, Int.mul_add, Int.mul_one]
      omega
    · rw [if_neg h, if_neg (show ¬ cvP N w x (a + n) = true by unfold cvP; rw [decide_eq_false h]; exact Bool.false_ne_true), Nat.add_zero]
      omega
/-- only one way has changed -/
theorem cvS_one {N N' : Nat → Nat → Nat} {x w : Nat} {d : Int} (hw : ∀ w', w' ≠ w → cntB (cvP N' w' x) (N' 24 w') = cntB (cvP N w' x) (N 24 w')) (hd : ((cntB (cvP N' w x) (N' 24 w) : Nat) : Int) = (cntB (cvP N w x) (N 24 w) : Nat) + d) : ∀ n, cvS N' x n = cvS N x n + (if w < n then d else 0)
  | 0 => by simp [cvS]
  | n + 1 => by
    unfold cvS
    rw [cvS_one hw hd n]
    by_cases e : n = w
    · subst e
      rw [if_neg (Nat.lt_irrefl _), if_pos (by omega), hd]
      omega
    · rw [hw n e]
      by_cases l : w < n
      · rw [if_pos l, if_pos (by omega)]; omega
      · rw [if_neg l, if_neg (by omega)]; omega
theorem TL_lt {F : Nat → Nat} {N : Nat → Nat → Nat} (hF : FB F) {w : Nat} (h : TL F N w) : w < 120 := by
  have h4 : F 4 ≤ 60 := hF 4
  have := h.1
  omega
/-- legs given up -/
theorem Iv.pop {F : Nat → Nat} {N : Nat → Nat → Nat} {Z : Nat → Int} {w n : Nat} (h : Iv F N Z) (hw : w < 120) (hn : n ≤ N 24 w) : Iv F (up2 N 24 w n) (ldZ N w (-1) n (N 24 w - n) Z) := by
  obtain ⟨⟨h1, h2, h3, h4, h5, h6, h7⟩, h8⟩ := h
  have h24 : N 24 w ≤ 3 := h2 24 w
  refine ⟨⟨h1.pop hn, h2.up (by show _ ≤ 3; omega), fun x hx => ?_, h4, h5, h6, fun x i hi => h7 x i ?_⟩, fun x => ?_⟩
  · obtain ⟨a, b, c⟩ := h3 x hx
    refine ⟨?_, b, c⟩
    by_cases e : x = w
    · subst e; rw [up2_eq]; omega
    · rw [up2_ne (Or.inr e)]; exact a
  · by_cases e : x = w
    · subst e; rw [up2_eq] at hi; omega
    · rw [up2_ne (Or.inr e)] at hi; exact hi
  · have hc : ∀ w' i, cvP (up2 N 24 w n) w' x i = cvP N w' x i := fun _ _ => rfl
    rw [ldZ_cnt, h8 x, cvS_one (N := N) (N' := up2 N 24 w n) (w := w) (d := -((cntB (fun i => cvP N w x (n + i)) (N 24 w - n) : Nat) : Int)) (fun w' e => by rw [up2_ne (Or.inr e)]; exact cntB_eq _ (fun i _ => rfl)) (by
      rw [up2_eq, cntB_eq (P := cvP (up2 N 24 w n) w x) (P' := cvP N w x) n (fun i _ => rfl)]
      have := cntB_add (cvP N w x) n (N 24 w - n)
      rw [show n + (N 24 w - n) = N 24 w by omega] at this
      omega), if_pos hw]
    omega
/-- legs put behind those of a way -/
theorem add_leg {w : Nat} : ∀ (L : List (Nat × Nat × Nat)) (N : Nat → Nat → Nat) (k x : Nat), (k = 27 ∨ k = 28 ∨ k = 29) → (x < 3 * w + N 24 w ∨ 3 * w + N 24 w + L.length ≤ x) → (L.foldl (addL w) N) k x = N k x
  | [], N, k, x, _, _ => rfl
  | q :: L, N, k, x, hk, hx => by
    rw [List.foldl_cons, add_leg L _ k x hk (by rw [addL_24x, if_pos rfl]; rw [List.length_cons] at hx; omega)]
    rcases hk with rfl | rfl | rfl
    · rw [addL_27 27 q.1 (Or.inl ⟨rfl, rfl⟩), if_neg (by rw [List.length_cons] at hx; omega)]
    · rw [addL_27 28 q.2.1 (Or.inr (Or.inl ⟨rfl, rfl⟩)), if_neg (by rw [List.length_cons] at hx; omega)]
    · rw [addL_27 29 q.2.2 (Or.inr (Or.inr ⟨rfl, rfl⟩)), if_neg (by rw [List.length_cons] at hx; omega)]
theorem add_24o {w x : Nat} (hx : x ≠ w) : ∀ (L : List (Nat × Nat × Nat)) (N : Nat → Nat → Nat), (L.foldl (addL w) N) 24 x = N 24 x
  | [], N => rfl
  | q :: L, N => by rw [List.foldl_cons, add_24o hx L, addL_24x, if_neg hx]
theorem iv1_addL {F : Nat → Nat} {N : Nat → Nat → Nat} {w : Nat} {q : Nat × Nat × Nat} (h : Iv1 F N) (hF : FB F) (hw : TL F N w) (h3 : N 24 w < 3) (k1 : q.1 < F 3) (k2 : q.2.1 < q.2.2) (k4 : q.2.2 < N 8 q.1) (k5 : N 24 w ≠ 0 → legB N (3 * w + (N 24 w - 1)) ≤ N 10 (10 * q.1 + q.2.1)) : Iv1 F (addL w N q) := by
  obtain ⟨h1, h2, g3, h4, h5, h6, h7⟩ := h
  have hF3 : F 3 ≤ 16 := hF 3
  have h8 : N 8 q.1 ≤ 10 := h2 8 _
  refine ⟨h1.addL h2 h3 k1 k2 k4, h2.addL h3 (by omega) (by omega) (by omega), fun x hx => ?_, h4, h5, h6, fun x i hi => ?_⟩
  · have hx' : ¬ TL F N x := hx
    have hne : x ≠ w := fun e => hx' (by rw [e]; exact hw)
    obtain ⟨a, b, c⟩ := g3 x hx'
    rw [addL_24x, if_neg hne, addL_row (by decide) (by decide), addL_row (by decide) (by decide)]
    exact ⟨a, b, c⟩
  · rw [addL_24x] at hi
    have hx3 : N 24 x ≤ 3 := h2 24 x
    unfold legB onM behN
    rw [addL_27 27 q.1 (Or.inl ⟨rfl, rfl⟩), addL_27 29 q.2.2 (Or.inr (Or.inr ⟨rfl, rfl⟩)), addL_27 27 q.1 (Or.inl ⟨rfl, rfl⟩), addL_27 28 q.2.1 (Or.inr (Or.inl ⟨rfl, rfl⟩)), addL_row (by decide) (by decide), addL_row (by decide) (by decide), addL_row (by decide) (by decide)]
    have hne : 3 * x + i ≠ 3 * w + N 24 w := by
      by_cases e : x = w
      · subst e; rw [if_pos rfl] at hi; omega
      · rw [if_neg e] at hi; omega
    rw [if_neg hne, if_neg hne]
    by_cases e2 : 3 * x + (i + 1) = 3 * w + N 24 w
    · rw [if_pos e2, if_pos e2]
      have hxw : x = w := by
        by_cases e : x = w
        · exact e
        · rw [if_neg e] at hi; omega
      subst hxw
      have := k5 (by omega)
      rw [show N 24 x - 1 = i by omega] at this
      exact this
    · rw [if_neg e2, if_neg e2]
      refine h7 x i ?_
      by_cases e : x = w
      · subst e; rw [if_pos rfl] at hi; omega
      · rw [if_neg e] at hi; exact hi
theorem iv1_add {F : Nat → Nat} {w : Nat} (hF : FB F) : ∀ (L : List (Nat × Nat × Nat)) (N : Nat → Nat → Nat) (m : Nat), Iv1 F N → TL F N w → N 24 w + L.length ≤ 3 → (N 24 w ≠ 0 → legB N (3 * w + (N 24 w - 1)) ≤ m) → chn (F 3) N m L → Iv1 F (L.foldl (addL w) N)
  | [], N, m, h, _, _, _, _ => h
  | q :: L, N, m, h, hw, hl, hm, hc => by
    obtain ⟨c1, c2, c3, c4, c5⟩ := hc
    rw [List.length_cons] at hl
    have hT : eqT N (addL w N q) := (eqT.rf N).addL w q
    refine iv1_add hF L (addL w N q) (qb N q) (iv1_addL h hF hw (by omega) c1 c2 c3 (fun z => Nat.le_trans (hm z) c4)) hw (by rw [addL_24x, if_pos rfl]; omega) (fun _ => ?_) ?_
    · rw [addL_24x, if_pos rfl, show N 24 w + 1 - 1 = N 24 w by omega]
      unfold legB
      rw [addL_27 27 q.1 (Or.inl ⟨rfl, rfl⟩), addL_27 29 q.2.2 (Or.inr (Or.inr ⟨rfl, rfl⟩)), if_pos rfl, if_pos rfl, hT.beh]
      exact Nat.le_refl _
    · exact chn_to hT L _ c5
where
  chn_to {T : Nat} {N N' : Nat → Nat → Nat} (h : eqT N N') : ∀ (L : List (Nat × Nat × Nat)) (m : Nat), chn T N m L → chn T N' m L
  | [], _, _ => trivial
  | q :: L, m, c => by
    obtain ⟨c1, c2, c3, c4, c5⟩ := c
    refine ⟨c1, c2, by rw [h.2.2.1]; exact c3, by rw [h.2.2.2.2.1]; exact c4, ?_⟩
    rw [show qb N' q = qb N q from h.beh _]
    exact chn_to h L _ c5
theorem iv_add {F : Nat → Nat} {N : Nat → Nat → Nat} {Z : Nat → Int} {w m : Nat} {L : List (Nat × Nat × Nat)} (h : Iv F N Z) (hF : FB F) (hw : TL F N w) (hl : N 24 w + L.length ≤ 3) (hm : N 24 w ≠ 0 → legB N (3 * w + (N 24 w - 1)) ≤ m) (hc : chn (F 3) N m L) : Iv F (L.foldl (addL w) N) (ldZ (L.foldl (addL w) N) w 1 (N 24 w) L.length Z) := by
  refine ⟨iv1_add hF L N m h.1 hw hl hm hc, fun x => ?_⟩
  have hN := h.1.2.1
  rw [ldZ_cnt, h.2 x, cvS_one (N := N) (N' := L.foldl (addL w) N) (w := w) (d := ((cntB (fun i => cvP (L.foldl (addL w) N) w x (N 24 w + i)) L.length : Nat) : Int)) (fun w' e => by
    rw [add_24o e]
    have h3 : N 24 w' ≤ 3 := hN 24 w'
    refine cntB_eq _ (fun i hi => ?_)
    unfold cvP
    rw [add_leg L N 27 _ (Or.inl rfl) (by omega), add_leg L N 28 _ (Or.inr (Or.inl rfl)) (by omega), add_leg L N 29 _ (Or.inr (Or.inr rfl)) (by omega)]) (by
    rw [addL_24, cntB_add, cntB_eq (P := cvP (L.foldl (addL w) N) w x) (P' := cvP N w x) (N 24 w) (fun i hi => by
      unfold cvP
      rw [add_leg L N 27 _ (Or.inl rfl) (by omega), add_leg L N 28 _ (Or.inr (Or.inl rfl)) (by omega), add_leg L N 29 _ (Or.inr (Or.inr rfl)) (by omega)])]
    omega), if_pos (TL_lt hF hw)]
  omega
/-- the reference's way: its length, and a chain -/
theorem way_ok {T : Nat} {N : Nat → Nat → Nat} {Z : Nat → Int} {to : Nat} : ∀ (l s m : Nat), (lkV T N Z to l s m).1 < 268435456 → (wayL T N Z to l s m).length = (lkV T N Z to l s m).2.1 ∧ chn T N m (wayL T N Z to l s m)
  | 0, s, m, h => ⟨rfl, trivial⟩
  | l + 1, s, m, h => by
    have hd : lkV T N Z to (l + 1) s m = (legsA N Z s m T 0).foldl (fun b q => vst b (lkV T N Z to l (q9 N q) (qb N q)) q) (if s = to then m else 268435456, 0, 0, 0, 0) := rfl
    rcases vst_fold (fun q => lkV T N Z to l (q9 N q) (qb N q)) (legsA N Z s m T 0) (if s = to then m else 268435456, 0, 0, 0, 0) with ⟨h1, h2⟩ | ⟨x, h1, h2, h3, h4, h5⟩
    · have hz : (lkV T N Z to (l + 1) s m).2.2.1 = 0 := by rw [hd, h1]
      rw [wayL_nil hz]
      refine ⟨?_, trivial⟩
      rw [hd, h1]
      rfl
    · have e : lkV T N Z to (l + 1) s m = ((lkV T N Z to l (q9 N x) (qb N x)).1, (lkV T N Z to l (q9 N x) (qb N x)).2.1 + 1, x.1 + 1, x.2.1, x.2.2) := hd.trans h2
      obtain ⟨i1, i2⟩ := way_ok l (q9 N x) (qb N x) h3
      obtain ⟨-, k1, k2, k3, -, k5, -⟩ := (mem_legsA T 0).mp (List.mem_of_find?_eq_some h1)
      have ew : wayL T N Z to (l + 1) s m = x :: wayL T N Z to l (q9 N x) (qb N x) := by
        show (if (lkV T N Z to (l + 1) s m).2.2.1 = 0 then [] else _) = _
        rw [e, if_neg (Nat.succ_ne_zero _)]
        rfl
      rw [ew, e]
      refine ⟨?_, by omega, k2, k3, k5, i2⟩
      rw [List.length_cons, i1]
