set_option maxRecDepth 100000
/-! the reference's numbers M and the component's C -/
def Lk (M C : Nat → Nat → Nat) : Prop := ∀ k, k ≠ 22 → k ≠ 23 → k ≠ 25 → M k = C k
def St (M C : Nat → Nat → Nat) (w : Nat) : Prop := (C 25 w = 0 ∧ M 22 w = 0 ∧ M 23 w = 0 ∧ M 25 w = 0 ∧ C 24 w = 0) ∨ (C 25 w = 1 ∧ M 22 w = 1 ∧ M 23 w = 1 ∧ M 25 w = 0) ∨ (C 25 w = 2 ∧ M 22 w = 1 ∧ M 23 w = 0 ∧ M 25 w = enW C w + 1 ∧ thW C w ≤ C 26 w)
/-- P: the ways that have given up legs and aren't led on yet -/
def RelP (P : Nat → Prop) (F : Nat → Nat) (M C : Nat → Nat → Nat) (Z : Nat → Int) : Prop :=
  Iv F C Z ∧ Us F C ∧ Lk M C ∧ (∀ w, w < 2 * F 4 → ¬ P w → St M C w) ∧ (∀ w, P w → TL F C w ∧ M 22 w = 1 ∧ M 23 w = 0 ∧ C 25 w ≠ 0) ∧ (∀ w, 2 * F 4 ≤ w → M 22 w = 0 ∧ M 23 w = 0)
abbrev Rel (F : Nat → Nat) (M C : Nat → Nat → Nat) (Z : Nat → Int) : Prop := RelP (fun _ => False) F M C Z
theorem Lk.up {M C : Nat → Nat → Nat} (h : Lk M C) (k i v : Nat) : Lk (up2 M k i v) (up2 C k i v) := by
  intro k' h1 h2 h3
  by_cases e : k' = k
  · subst e
    rw [up2_self, up2_self, h k' h1 h2 h3]
  · rw [up2_row e, up2_row e, h k' h1 h2 h3]
theorem Lk.upM {M C : Nat → Nat → Nat} (h : Lk M C) {k i v : Nat} (hk : k = 22 ∨ k = 23 ∨ k = 25) : Lk (up2 M k i v) C := by
  intro k' h1 h2 h3
  rw [up2_row (by omega), h k' h1 h2 h3]
theorem Lk.upC {M C : Nat → Nat → Nat} (h : Lk M C) {k i v : Nat} (hk : k = 22 ∨ k = 23 ∨ k = 25) : Lk M (up2 C k i v) := by
  intro k' h1 h2 h3
  rw [up2_row (by omega), h k' h1 h2 h3]
theorem Lk.T {M C : Nat → Nat → Nat} (h : Lk M C) : eqT C M := ⟨h 6 (by decide) (by decide) (by decide), h 7 (by decide) (by decide) (by decide), h 8 (by decide) (by decide) (by decide), h 9 (by decide) (by decide) (by decide), h 10 (by decide) (by decide) (by decide), h 13 (by decide) (by decide) (by decide)⟩
theorem lk_addL {M C : Nat → Nat → Nat} {w : Nat} {q : Nat × Nat × Nat} (h : Lk M C) : Lk (addL w M q) (addL w C q) := by
  unfold addL
  rw [h 24 (by decide) (by decide) (by decide)]
  exact (((h.up _ _ _).up _ _ _).up _ _ _).up _ _ _
theorem lk_fold {w : Nat} : ∀ (L : List (Nat × Nat × Nat)) (M C : Nat → Nat → Nat), Lk M C → Lk (L.foldl (addL w) M) (L.foldl (addL w) C)
  | [], _, _, h => h
  | q :: L, _, _, h => lk_fold L _ _ (lk_addL h)
/-! the box's way, seen from both -/
theorem way_0 {N : Nat → Nat → Nat} {b : Nat} (h : N 21 b = 0) : wayN N b = 2 * b ∧ wayN N b % 2 = 0 ∧ wayN N b / 2 = b := by unfold wayN; omega
theorem way_1 {N : Nat → Nat → Nat} {b : Nat} (hN : NB N) (h : N 21 b ≠ 0) : wayN N b = 2 * b + 1 ∧ wayN N b % 2 ≠ 0 ∧ wayN N b / 2 = b := by
  have : N 21 b ≤ 1 := hN 21 b
  unfold wayN
  omega
theorem br_way {M C : Nat → Nat → Nat} (h : Lk M C) (b : Nat) : wayN M b = wayN C b := by
  unfold wayN
  rw [h 21 (by decide) (by decide) (by decide)]
theorem br_fr {M C : Nat → Nat → Nat} (h : Lk M C) (hN : NB C) (b : Nat) : frN M b = frW C (wayN C b) := by
  unfold frN frW
  rw [h 21 (by decide) (by decide) (by decide), h 14 (by decide) (by decide) (by decide), h 17 (by decide) (by decide) (by decide)]
  by_cases e : C 21 b = 0
  · obtain ⟨-, e1, e2⟩ := way_0 e; rw [if_pos e, if_pos e1, e2]
  · obtain ⟨-, e1, e2⟩ := way_1 hN e; rw [if_neg e, if_neg e1, e2]
theorem br_to {M C : Nat → Nat → Nat} (h : Lk M C) (hN : NB C) (b : Nat) : toN M b = toW C (wayN C b) := by
  unfold toN toW
  rw [h 21 (by decide) (by decide) (by decide), h 14 (by decide) (by decide) (by decide), h 17 (by decide) (by decide) (by decide)]
  by_cases e : C 21 b = 0
  · obtain ⟨-, e1, e2⟩ := way_0 e; rw [if_pos e, if_pos e1, e2]
  · obtain ⟨-, e1, e2⟩ := way_1 hN e; rw [if_neg e, if_neg e1, e2]
theorem br_rd {M C : Nat → Nat → Nat} (h : Lk M C) (hN : NB C) (b : Nat) : rdN M b = rdW C (wayN C b) := by
  unfold rdN rdW
  rw [h 21 (by decide) (by decide) (by decide), h 16 (by decide) (by decide) (by decide), h 20 (by decide) (by decide) (by decide)]
  by_cases e : C 21 b = 0
  · obtain ⟨-, e1, e2⟩ := way_0 e; rw [if_pos e, if_pos e1, e2]
  · obtain ⟨-, e1, e2⟩ := way_1 hN e; rw [if_neg e, if_neg e1, e2]
theorem br_wf {M C : Nat → Nat → Nat} (h : Lk M C) (hN : NB C) (b : Nat) : wkF M b = wfW C (wayN C b) := by
  unfold wkF wfW
  rw [h 21 (by decide) (by decide) (by decide), h 15 (by decide) (by decide) (by decide), h 18 (by decide) (by decide) (by decide)]
  by_cases e : C 21 b = 0
  · obtain ⟨-, e1, e2⟩ := way_0 e; rw [if_pos e, if_pos e1, e2]
  · obtain ⟨-, e1, e2⟩ := way_1 hN e; rw [if_neg e, if_neg e1, e2]
theorem br_wt {M C : Nat → Nat → Nat} (h : Lk M C) (hN : NB C) (b : Nat) : wkT M b = wtW C (wayN C b) := by
  unfold wkT wtW
  rw [h 21 (by decide) (by decide) (by decide), h 15 (by decide) (by decide) (by decide), h 18 (by decide) (by decide) (by decide)]
  by_cases e : C 21 b = 0
  · obtain ⟨-, e1, e2⟩ := way_0 e; rw [if_pos e, if_pos e1, e2]
  · obtain ⟨-, e1, e2⟩ := way_1 hN e; rw [if_neg e, if_neg e1, e2]
theorem br_du {M C : Nat → Nat → Nat} (h : Lk M C) (hN : NB C) (b : Nat) : (if M 21 b = 0 then (M 19 b : Int) else 1439) = duW C (wayN C b) := by
  unfold duW
  rw [h 21 (by decide) (by decide) (by decide), h 19 (by decide) (by decide) (by decide)]
  by_cases e : C 21 b = 0
  · obtain ⟨-, e1, e2⟩ := way_0 e; rw [if_pos e, if_pos e1, e2]
  · obtain ⟨-, e1, e2⟩ := way_1 hN e; rw [if_neg e, if_neg e1]; rfl
theorem br_srt {M C : Nat → Nat → Nat} (h : Lk M C) (hN : NB C) (b : Nat) : srtN M b = bgW C (wayN C b) := by
  unfold srtN bgW
  rw [br_rd h hN, br_wf h hN, br_fr h hN, h 6 (by decide) (by decide) (by decide)]
theorem br_th {M C : Nat → Nat → Nat} (h : Lk M C) (hN : NB C) (b : Nat) : thrN M (wayN C b) b = thW C (wayN C b) := by
  unfold thrN thW legB
  rw [br_srt h hN, h 24 (by decide) (by decide) (by decide), h.T.beh, h 27 (by decide) (by decide) (by decide), h 29 (by decide) (by decide) (by decide)]
theorem br_en {M C : Nat → Nat → Nat} (h : Lk M C) (hN : NB C) (b : Nat) : endN M b = enW C (wayN C b) := by
  unfold endN enW
  rw [br_way h, br_fr h hN, h 24 (by decide) (by decide) (by decide), h 9 (by decide) (by decide) (by decide), h 27 (by decide) (by decide) (by decide), h 29 (by decide) (by decide) (by decide)]
theorem tl_way {F : Nat → Nat} {C : Nat → Nat → Nat} (hN : NB C) {b : Nat} (hb : b < F 4) : TL F C (wayN C b) := TL_way hN hb
theorem tl_lt {F : Nat → Nat} {N : Nat → Nat → Nat} {w : Nat} (h : TL F N w) : w < 2 * F 4 := by have := h.1; omega
/-- a way that hasn't changed ends where it did -/
def eqW (N N' : Nat → Nat → Nat) (w : Nat) : Prop := N' 24 w = N 24 w ∧ (∀ i, i < N 24 w → N' 27 (3 * w + i) = N 27 (3 * w + i) ∧ N' 29 (3 * w + i) = N 29 (3 * w + i)) ∧ ∀ k, k < 22 → N' k = N k
theorem eqW.en {N N' : Nat → Nat → Nat} {w : Nat} (h : eqW N N' w) : enW N' w = enW N w := by
  unfold enW frW
  rw [h.1, h.2.2 14 (by decide), h.2.2 17 (by decide), h.2.2 9 (by decide)]
  by_cases e : N 24 w = 0
  · rw [if_pos e, if_pos e]
  · obtain ⟨h1, h2⟩ := h.2.1 (N 24 w - 1) (by omega)
    rw [if_neg e, if_neg e, h1, h2]
theorem eqW.th {N N' : Nat → Nat → Nat} {w : Nat} (h : eqW N N' w) : thW N' w = thW N w := by
  unfold thW bgW rdW wfW frW legB behN
  rw [h.1, h.2.2 14 (by decide), h.2.2 15 (by decide), h.2.2 16 (by decide), h.2.2 17 (by decide), h.2.2 18 (by decide), h.2.2 20 (by decide), h.2.2 9 (by decide), h.2.2 10 (by decide), h.2.2 6 (by decide)]
  by_cases e : N 24 w = 0
  · rw [if_pos e, if_pos e]
  · obtain ⟨h1, h2⟩ := h.2.1 (N 24 w - 1) (by omega)
    rw [if_neg e, if_neg e, h1, h2]
theorem St.to {M C M' C' : Nat → Nat → Nat} {w : Nat} (h : St M C w) (he : eqW C C' w) (h1 : C' 25 w = C 25 w) (h2 : C' 26 w = C 26 w) (h3 : M' 22 w = M 22 w) (h4 : M' 23 w = M 23 w) (h5 : M' 25 w = M 25 w) : St M' C' w := by
  unfold St
  rw [h1, h2, h3, h4, h5, he.en, he.th, he.1]
  exact h
theorem usN_oth {N : Nat → Nat → Nat} {w a t : Nat} : ∀ n, (∀ i, i < n → N 27 (3 * w + (a + i)) ≠ t) → usN N w a n 23 t = N 23 t
  | 0, _ => rfl
  | n + 1, h => by
    unfold usN
    rw [up2_ne (Or.inr (fun e => h n (by omega) e.symm)), usN_oth n (fun i hi => h i (by omega))]
/-- rows of a component's numbers that a way's lead leaves -/
theorem Iv1.rows {F : Nat → Nat} {N N' : Nat → Nat → Nat} (h : Iv1 F N) (hr : ∀ k, k ≠ 22 → k ≠ 23 → k ≠ 25 → N' k = N k) (hB : NB N') (h25 : ∀ w, N' 25 w ≤ 2) (h0 : ∀ w, ¬ TL F N w → N' 25 w = 0) : Iv1 F N' := by
  obtain ⟨h1, h2, h3, h4, h5, h6, h7⟩ := h
  have e : ∀ k, k ≠ 22 → k ≠ 23 → k ≠ 25 → N' k = N k := hr
  have hTL : ∀ w, TL F N' w ↔ TL F N w := fun w => by unfold TL; rw [e 21 (by decide) (by decide) (by decide)]
  refine ⟨⟨?_, ?_, ?_, h25⟩, hB, fun w hw => ?_, ?_, ?_, ?_, ?_⟩
  · rw [e 8 (by decide) (by decide) (by decide), e 9 (by decide) (by decide) (by decide)]; exact h1.1
  · rw [e 14 (by decide) (by decide) (by decide), e 17 (by decide) (by decide) (by decide)]; exact h1.2.1
  · intro w i hw hi
    rw [e 24 (by decide) (by decide) (by decide)] at hi
    rw [e 27 (by decide) (by decide) (by decide), e 28 (by decide) (by decide) (by decide), e 29 (by decide) (by decide) (by decide), e 8 (by decide) (by decide) (by decide)]
    exact h1.2.2.1 w i ((hTL w).mp hw) hi
  · have hw' : ¬ TL F N w := fun z => hw ((hTL w).mpr z)
    rw [e 24 (by decide) (by decide) (by decide), e 26 (by decide) (by decide) (by decide)]
    exact ⟨(h3 w hw').1, h0 w hw', (h3 w hw').2.2⟩
  · rw [e 21 (by decide) (by decide) (by decide)]; exact h4
  · rw [e 8 (by decide) (by decide) (by decide), e 13 (by decide) (by decide) (by decide)]; exact h5
  · rw [e 8 (by decide) (by decide) (by decide), e 10 (by decide) (by decide) (by decide)]; exact h6
  · unfold legB onM behN
    rw [e 24 (by decide) (by decide) (by decide), e 27 (by decide) (by decide) (by decide), e 28 (by decide) (by decide) (by decide), e 29 (by decide) (by decide) (by decide), e 6 (by decide) (by decide) (by decide), e 9 (by decide) (by decide) (by decide), e 10 (by decide) (by decide) (by decide)]
    exact h7
theorem cvS_rows {N N' : Nat → Nat → Nat} (h24 : N' 24 = N 24) (h27 : N' 27 = N 27) (h28 : N' 28 = N 28) (h29 : N' 29 = N 29) (x : Nat) : ∀ n, cvS N' x n = cvS N x n
  | 0 => rfl
  | n + 1 => by
    unfold cvS
    rw [cvS_rows h24 h27 h28 h29 x n, h24, cntB_eq (P := cvP N' n x) (P' := cvP N n x) _ (fun i _ => by unfold cvP; rw [h27, h28, h29])]
theorem add_TL {F : Nat → Nat} {w x : Nat} (L : List (Nat × Nat × Nat)) (N : Nat → Nat → Nat) : TL F (L.foldl (addL w) N) x ↔ TL F N x := by
  unfold TL
  rw [foldL_row (by decide) (by decide)]
/-- a way is led on -/
theorem lead_yes {P : Nat → Prop} {F : Nat → Nat} {M C : Nat → Nat → Nat} {Z : Nat → Int} {b na : Nat} (h : RelP P F M C Z) (hF : FB F) (hb : b < F 4) (hhas : (lkV (F 3) C Z (toW C (wayN C b)) (3 - C 24 (wayN C b)) (enW C (wayN C b)) (max (thW C (wayN C b)) na)).1 < 268435456) :
    (ldOn (F 3) M Z b (enW C (wayN C b)) (max (thW C (wayN C b)) na)).2.1 = (ldC (F 3) C Z (wayN C b) na).2.1 ∧ (ldOn (F 3) M Z b (enW C (wayN C b)) (max (thW C (wayN C b)) na)).2.2 = 1 ∧ (ldC (F 3) C Z (wayN C b) na).2.2 = 1 ∧
    RelP (fun w => P w ∧ w ≠ wayN C b) F (ldOn (F 3) M Z b (enW C (wayN C b)) (max (thW C (wayN C b)) na)).1 (ldC (F 3) C Z (wayN C b) na).1 (ldC (F 3) C Z (wayN C b) na).2.1 := by
  obtain ⟨hI, hU, hL, hS, hP, hZ⟩ := h
  have hN := hI.1.2.1
  have hTw : TL F C (wayN C b) := tl_way hN hb
  have hw3 : C 24 (wayN C b) ≤ 3 := hN 24 _
  generalize hs : enW C (wayN C b) = s at hhas ⊢
  generalize hm : max (thW C (wayN C b)) na = m at hhas ⊢
  have hmt : thW C (wayN C b) ≤ m := by rw [← hm]; exact Nat.le_max_left _ _
  have e1 : lkV (F 3) M Z (toN M b) (3 - M 24 (wayN M b)) s m = lkV (F 3) C Z (toW C (wayN C b)) (3 - C 24 (wayN C b)) s m := by
    rw [br_to hL hN, br_way hL, hL 24 (by decide) (by decide) (by decide), hL.T.lV]
  have e2 : wayL (F 3) M Z (toN M b) (3 - M 24 (wayN M b)) s m = wayL (F 3) C Z (toW C (wayN C b)) (3 - C 24 (wayN C b)) s m := by
    rw [br_to hL hN, br_way hL, hL 24 (by decide) (by decide) (by decide), hL.T.wL]
  obtain ⟨hlen, hchn⟩ := way_ok _ _ _ hhas
  have hlle := lkV_legs (T := F 3) (N := C) (Z := Z) (to := toW C (wayN C b)) (3 - C 24 (wayN C b)) s m
  have hC : ldC (F 3) C Z (wayN C b) na = (up2 (usN ((wayL (F 3) C Z (toW C (wayN C b)) (3 - C 24 (wayN C b)) s m).foldl (addL (wayN C b)) C) (wayN C b) (C 24 (wayN C b)) (lkV (F 3) C Z (toW C (wayN C b)) (3 - C 24 (wayN C b)) s m).2.1) 25 (wayN C b) 1, ldZ ((wayL (F 3) C Z (toW C (wayN C b)) (3 - C 24 (wayN C b)) s m).foldl (addL (wayN C b)) C) (wayN C b) 1 (C 24 (wayN C b)) (lkV (F 3) C Z (toW C (wayN C b)) (3 - C 24 (wayN C b)) s m).2.1 Z, 1) := by
    unfold ldC
    rw [hs, hm, if_pos hhas]
  have hM : ldOn (F 3) M Z b s m = (ledN ((wayL (F 3) C Z (toW C (wayN C b)) (3 - C 24 (wayN C b)) s m).foldl (addL (wayN C b)) M) (wayN C b), ldZ (ledN ((wayL (F 3) C Z (toW C (wayN C b)) (3 - C 24 (wayN C b)) s m).foldl (addL (wayN C b)) M) (wayN C b)) (wayN C b) 1 (C 24 (wayN C b)) (((wayL (F 3) C Z (toW C (wayN C b)) (3 - C 24 (wayN C b)) s m).foldl (addL (wayN C b)) M) 24 (wayN C b) - C 24 (wayN C b)) Z, 1) := by
    rw [ldOn_yes (by rw [e1]; exact hhas)]
    unfold wayA
    rw [e2, br_way hL, hL 24 (by decide) (by decide) (by decide)]
  rw [hC, hM, ← hlen]
  generalize wayL (F 3) C Z (toW C (wayN C b)) (3 - C 24 (wayN C b)) s m = L at hlen hchn ⊢
  have hl3 : C 24 (wayN C b) + L.length ≤ 3 := by omega
  generalize hw : wayN C b = w at *
  have hLf := lk_fold (w := w) L M C hL
  have hIv := iv_add (m := m) hI hF hTw hl3 (fun z => by
    unfold thW at hmt
    rw [if_neg z] at hmt
    exact hmt) hchn
  have h24 : (L.foldl (addL w) M) 24 w = C 24 w + L.length := by rw [addL_24, hL 24 (by decide) (by decide) (by decide)]
  have hrow : ∀ k, k ≠ 22 → k ≠ 23 → k ≠ 25 → up2 (usN (L.foldl (addL w) C) w (C 24 w) L.length) 25 w 1 k = (L.foldl (addL w) C) k := fun k _ k2 k3 => by rw [up2_row k3, usN_row k2]
  have hrowM : ∀ k, k ≠ 22 → k ≠ 23 → k ≠ 25 → ledN (L.foldl (addL w) M) w k = (L.foldl (addL w) M) k := fun k k1 k2 k3 => by unfold ledN; rw [up2_row k3, up2_row k2, up2_row k1]
  have h25 : ∀ x, x ≠ w → up2 (usN (L.foldl (addL w) C) w (C 24 w) L.length) 25 w 1 25 x = C 25 x := fun x hx => by rw [up2_ne (Or.inr hx), usN_row (by decide), foldL_row (by decide) (by decide)]
  dsimp only
  refine ⟨?_, rfl, rfl, ⟨?_, ?_⟩, ⟨?_, ?_⟩, ?_, ?_, ?_, ?_⟩
  · show ldZ _ w 1 _ _ Z = ldZ _ w 1 _ _ Z
    rw [h24, Nat.add_sub_cancel_left, ldZ_to (N' := ledN (L.foldl (addL w) M) w) (N := L.foldl (addL w) C)]
    · rw [hrowM 27 (by decide) (by decide) (by decide), hLf 27 (by decide) (by decide) (by decide)]
    · rw [hrowM 28 (by decide) (by decide) (by decide), hLf 28 (by decide) (by decide) (by decide)]
    · rw [hrowM 29 (by decide) (by decide) (by decide), hLf 29 (by decide) (by decide) (by decide)]
  · refine hIv.1.rows hrow ((usN_NB hIv.1.2.1 _).up (by show 1 ≤ 10; omega)) (fun x => ?_) (fun x hx => ?_)
    · by_cases e : x = w
      · rw [e]
        show up2 _ 25 w 1 25 w ≤ 2
        rw [up2_eq]; omega
      · rw [h25 x e]; exact hI.1.1.2.2.2 x
    · rw [add_TL] at hx
      have e : x ≠ w := fun e => hx (by rw [e]; exact hTw)
      rw [h25 x e]
      exact (hI.1.2.2.1 x hx).2.1
  · intro x
    rw [cvS_rows (hrow 24 (by decide) (by decide) (by decide)) (hrow 27 (by decide) (by decide) (by decide)) (hrow 28 (by decide) (by decide) (by decide)) (hrow 29 (by decide) (by decide) (by decide))]
    exact hIv.2 x
  · intro t ht
    rw [up2_row (by decide), usN_oth _ (fun i hi => ?_), foldL_row (by decide) (by decide)]
    · exact hU.1 t ht
    · have h1 := hIv.1.1.2.2.1 w (C 24 w + i) ((add_TL L C).mpr hTw) (by rw [addL_24]; omega)
      omega
  · intro x i hi
    rw [hrow 24 (by decide) (by decide) (by decide)] at hi
    rw [hrow 27 (by decide) (by decide) (by decide), up2_row (by decide)]
    have hnew : ∀ j, j < L.length → usN (L.foldl (addL w) C) w (C 24 w) L.length 23 ((L.foldl (addL w) C) 27 (3 * w + (C 24 w + j))) = 1 := fun j hj => usN_1 _ j hj
    have hold : ∀ y j, j < C 24 y → 3 * y + j < 3 * w + C 24 w ∨ 3 * w + C 24 w + L.length ≤ 3 * y + j → usN (L.foldl (addL w) C) w (C 24 w) L.length 23 ((L.foldl (addL w) C) 27 (3 * y + j)) = 1 := fun y j hj hy => by
      rw [add_leg L C 27 _ (Or.inl rfl) hy]
      have h1 := hU.2 y j hj
      have h2 := usN_le (w := w) (a := C 24 w) (t := C 27 (3 * y + j)) hIv.1.2.1 L.length
      have h3 : usN (L.foldl (addL w) C) w (C 24 w) L.length 23 (C 27 (3 * y + j)) ≤ 1 := usN_NB hIv.1.2.1 L.length 23 _
      rw [foldL_row (k := 23) (by decide) (by decide), h1] at h2
      omega
    have hx3 : C 24 x ≤ 3 := hN 24 x
    by_cases e : x = w
    · subst e
      rw [addL_24] at hi
      by_cases l : i < C 24 x
      · exact hold x i l (by omega)
      · have := hnew (i - C 24 x) (by omega)
        rw [show C 24 x + (i - C 24 x) = i by omega] at this
        exact this
    · rw [add_24o e] at hi
      exact hold x i hi (by omega)
  · intro k k1 k2 k3
    rw [hrowM k k1 k2 k3, hrow k k1 k2 k3, hLf k k1 k2 k3]
  · intro x hx hnp
    by_cases e : x = w
    · subst e
      refine Or.inr (Or.inl ⟨up2_eq _ _ _ _, ?_, ?_, up2_eq _ _ _ _⟩)
      · unfold ledN; rw [up2_row (by decide), up2_row (by decide), up2_eq]
      · unfold ledN; rw [up2_row (by decide), up2_eq]
    · have hx3 : C 24 x ≤ 3 := hN 24 x
      refine (hS x hx (fun q => hnp ⟨q, e⟩)).to ⟨?_, fun i hi => ⟨?_, ?_⟩, fun k hk => ?_⟩ (h25 x e) ?_ ?_ ?_ ?_
      · rw [hrow 24 (by decide) (by decide) (by decide), add_24o e]
      · rw [hrow 27 (by decide) (by decide) (by decide), add_leg L C 27 _ (Or.inl rfl) (by omega)]
      · rw [hrow 29 (by decide) (by decide) (by decide), add_leg L C 29 _ (Or.inr (Or.inr rfl)) (by omega)]
      · rw [hrow k (by omega) (by omega) (by omega), foldL_row (by omega) (by omega)]
      · rw [hrow 26 (by decide) (by decide) (by decide), foldL_row (by decide) (by decide)]
      · unfold ledN; rw [up2_row (by decide), up2_row (by decide), up2_ne (Or.inr e), foldL_row (by decide) (by decide)]
      · unfold ledN; rw [up2_row (by decide), up2_ne (Or.inr e), up2_row (by decide), foldL_row (by decide) (by decide)]
      · unfold ledN; rw [up2_ne (Or.inr e), up2_row (by decide), up2_row (by decide), foldL_row (by decide) (by decide)]
  · intro x hx
    obtain ⟨p1, p2, p3, p4⟩ := hP x hx.1
    refine ⟨?_, ?_, ?_, ?_⟩
    · unfold TL
      rw [hrow 21 (by decide) (by decide) (by decide), foldL_row (by decide) (by decide)]
      exact p1
    · unfold ledN; rw [up2_row (by decide), up2_row (by decide), up2_ne (Or.inr hx.2), foldL_row (by decide) (by decide)]; exact p2
    · unfold ledN; rw [up2_row (by decide), up2_ne (Or.inr hx.2), up2_row (by decide), foldL_row (by decide) (by decide)]; exact p3
    · rw [h25 x hx.2]; exact p4
  · intro x hx
    have e : x ≠ w := fun e => by have := tl_lt hTw; omega
    obtain ⟨a, c⟩ := hZ x hx
    refine ⟨?_, ?_⟩
    · unfold ledN; rw [up2_row (by decide), up2_row (by decide), up2_ne (Or.inr e), foldL_row (by decide) (by decide)]; exact a
    · unfold ledN; rw [up2_row (by decide), up2_ne (Or.inr e), up2_row (by decide), foldL_row (by decide) (by decide)]; exact c
theorem lead_no {P : Nat → Prop} {F : Nat → Nat} {M C : Nat → Nat → Nat} {Z : Nat → Int} {b na : Nat} (h : RelP P F M C Z) (hhas : ¬ (lkV (F 3) C Z (toW C (wayN C b)) (3 - C 24 (wayN C b)) (enW C (wayN C b)) (max (thW C (wayN C b)) na)).1 < 268435456) :
    ldOn (F 3) M Z b (enW C (wayN C b)) (max (thW C (wayN C b)) na) = (M, Z, 0) ∧ ldC (F 3) C Z (wayN C b) na = (C, Z, 0) := by
  obtain ⟨hI, hU, hL, hS, hP, hZ⟩ := h
  have hN := hI.1.2.1
  refine ⟨ldOn_no ?_, if_neg hhas⟩
  rw [br_to hL hN, br_way hL, hL 24 (by decide) (by decide) (by decide), hL.T.lV]
  exact hhas
