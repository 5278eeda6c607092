set_option maxRecDepth 100000
/-! the component's world: lists that grow or shrink -/
section CA
variable {D : va_G} {cA : Nat → ClassId} {A : Nat → Prop} {sa : Nat → Nat} {ad : Nat → Nat → Nat} {F : Nat → Nat} {N : Nat → Nat → Nat} {Z : Nat → Int} {E : Nat → Nat → Int} {H H1 : Heap}
theorem up2_up2 {α : Type} (r : Nat → Nat → α) (k i : Nat) (a b : α) : up2 (up2 r k i a) k i b = up2 r k i b := by
  funext k' j
  unfold up2
  by_cases h : k' = k ∧ j = i
  · rw [if_pos h, if_pos h]
  · rw [if_neg h, if_neg h, if_neg h]
theorem up2_eta {α : Type} (r : Nat → Nat → α) (k i : Nat) : up2 r k i (r k i) = r := by
  funext k' j
  unfold up2
  by_cases h : k' = k ∧ j = i
  · rw [if_pos h, h.1, h.2]
  · rw [if_neg h]
theorem nxC_le {cap sz : Nat} (h1 : 1 ≤ cap) (h2 : cap ≤ 90) (h3 : sz ≤ 60) : 1 ≤ nxC cap sz ∧ nxC cap sz ≤ 90 := by
  unfold nxC
  split <;> omega
theorem CW.keptL (h : CW D cA A sa ad F N Z E H) (hF : F 3 ≤ 16) (hN : NB N) (hz : H.size ≤ H1.size) (kp : ∀ k i, Lv F N k i → H1[ad k i]? = H[ad k i]?) : CW D cA A sa ad F N Z E H1 :=
  ⟨h.1.kept hF hN kp, h.2.1, h.2.2.1, fun q h1 => h.2.2.2 q (by omega)⟩
theorem CWa.ext {ad' : Nat → Nat → Nat} {F' : Nat → Nat} {N' : Nat → Nat → Nat} (h : CWa A ad F N H) (new : Nat → Nat → Prop) (hz : H.size ≤ H1.size) (hl : ∀ k i, Lv F' N' k i → new k i ∨ (¬ new k i ∧ Lv F N k i ∧ ad' k i = ad k i)) (hA : ∀ k i, new k i → A (ad' k i))
    (hnn : ∀ k i k' i', new k i → new k' i' → ad' k i = ad' k' i' → k = k' ∧ i = i') (hno : ∀ k i k' i', new k i → ¬ new k' i' → Lv F N k' i' → ad' k i ≠ ad k' i') : CWa A ad' F' N' H1 := by
  refine ⟨fun k i hk => ?_, fun k i k' i' h1 h2 e => ?_, fun q hq => h.2.2 q (by omega)⟩
  · rcases hl k i hk with q | ⟨-, q, e⟩
    · exact hA k i q
    · rw [e]; exact h.1 k i q
  · rcases hl k i h1 with q | ⟨n1, q, e1⟩ <;> rcases hl k' i' h2 with r | ⟨n2, r, e2⟩
    · exact hnn k i k' i' q r e
    · rw [e2] at e; exact absurd e (hno k i k' i' q n2 r)
    · rw [e1] at e; exact absurd e.symm (hno k' i' k i r n1 q)
    · rw [e1, e2] at e; exact h.2.1 k i k' i' q r e
/-- the list at i, changed -/
theorem CW.butL (h : CW D cA A sa ad F N Z E H) {i0 n0 : Nat} (hl1 : Lv F N 1 i0) (hl2 : Lv F N 2 i0) (hlt : ∀ k i, Lv F N k i → ad k i < n0) (hk : ∀ q, q < n0 → ¬ (q = ad 1 i0 ∨ q = ad 2 i0) → H1[q]? = H[q]?) (k i : Nat) (hl : Lv F N k i) (hne : (k ≠ 1 ∧ k ≠ 2) ∨ i ≠ i0) : H1[ad k i]? = H[ad k i]? :=
  hk _ (hlt k i hl) (fun q => q.elim (fun e => h.ne hl hl1 (by omega) e) (fun e => h.ne hl hl2 (by omega) e))
theorem Lv_pop {w n : Nat} (hn : n ≤ N 24 w) : ∀ (k i : Nat), Lv F (up2 N 24 w n) k i → Lv F N k i
  | 0, _, h => h
  | 1, _, h => h
  | 2, _, h => h
  | 3, _, h => h
  | 4, _, h => h
  | 5, _, h => h
  | 6, _, h => h
  | 7, _, h => h
  | 8, _, h => h
  | 9, i, h => by
    refine ⟨h.1, ?_⟩
    have h2 := h.2
    by_cases e : i / 3 = w
    · rw [e, up2_eq] at h2
      rw [e]
      omega
    · rw [up2_ne (Or.inr e)] at h2
      exact h2
  | _ + 10, _, h => h.elim
theorem CW.popG {w n n0 : Nat} (h : CW D cA A sa ad F N Z E H) (hF : F 3 ≤ 16) (hN : NB N) (hw : TL F N w) (hn : n ≤ N 24 w) (hP : Lst D cA ad (100 + w) n (fun j => ad 9 (3 * w + j)) H1) (hlt : ∀ k i, Lv F N k i → ad k i < n0) (hk : ∀ q, q < n0 → ¬ (q = ad 1 (100 + w) ∨ q = ad 2 (100 + w)) → H1[q]? = H[q]?) (hz : H.size ≤ H1.size) : CW D cA A sa ad F (up2 N 24 w n) Z E H1 := by
  have kp := h.butL (i0 := 100 + w) (lv_lg hw) (lv_eg hw) hlt hk
  exact ⟨⟨h.c0.kept (kp 0 0 (by show 0 < 3; omega) (Or.inl (by decide))),
      h.c1.kept (kp 0 1 (by show 1 < 3; omega) (Or.inl (by decide))),
      h.c2.kept (kp 0 2 (by show 2 < 3; omega) (Or.inl (by decide))),
      h.l0.kept (kp _ _ (lv_l0 0 (by omega)) (Or.inr (by omega))) (kp _ _ (lv_e0 0 (by omega)) (Or.inr (by omega))),
      h.l1.kept (kp _ _ (lv_l0 1 (by omega)) (Or.inr (by omega))) (kp _ _ (lv_e0 1 (by omega)) (Or.inr (by omega))),
      h.l2.kept (kp _ _ (lv_l0 2 (by omega)) (Or.inr (by omega))) (kp _ _ (lv_e0 2 (by omega)) (Or.inr (by omega))),
      h.l3.kept (kp _ _ (lv_l0 3 (by omega)) (Or.inr (by omega))) (kp _ _ (lv_e0 3 (by omega)) (Or.inr (by omega))),
      fun j hj => (h.k3 j hj).kept (kp 3 j hj (Or.inl (by decide))),
      fun t ht => (h.k4 t ht).kept (kp 4 t ht (Or.inl (by decide))),
      fun t ht => (h.k5 t ht).kept (kp 5 t ht (Or.inl (by decide))),
      fun t ht => (h.lp t ht).kept (kp _ _ (lv_lp ht (Nat.lt_of_lt_of_le ht hF)) (Or.inr (by have := Nat.lt_of_lt_of_le ht hF; omega))) (kp _ _ (lv_ep ht (Nat.lt_of_lt_of_le ht hF)) (Or.inr (by have := Nat.lt_of_lt_of_le ht hF; omega))),
      fun t k ht hk => (h.k6 t k ht hk).kept (kp _ _ (lv_6 ht hk (hN 8 t)) (Or.inl (by decide))),
      fun b hb => (h.k7 b hb).kept (kp 7 b hb (Or.inl (by decide))),
      fun w hw => (h.k8 w hw).kept (kp 8 w hw (Or.inl (by decide))),
      fun x hx => by
        by_cases e : x = w
        · subst e
          rw [up2_eq]
          exact hP
        · rw [up2_ne (Or.inr e)]
          exact (h.lg x hx).kept (kp _ _ (lv_lg hx) (Or.inr (by omega))) (kp _ _ (lv_eg hx) (Or.inr (by omega))),
      fun x i hx hi => by
        have hi' : i < N 24 x := by
          by_cases e : x = w
          · subst e
            rw [up2_eq] at hi
            omega
          · rw [up2_ne (Or.inr e)] at hi
            exact hi
        exact (h.k9 x i hx hi').kept (kp _ _ (lv_9 hx hi' (hN 24 x)) (Or.inl (by decide)))⟩, fun k i hl => h.2.1 k i (Lv_pop hn k i hl), fun k i k' i' h1 h2 e => h.2.2.1 k i k' i' (Lv_pop hn k i h1) (Lv_pop hn k' i' h2) e, fun q hq => h.2.2.2 q (by omega)⟩
theorem Lv_addG {w : Nat} {q : Nat × Nat × Nat} : ∀ (k i : Nat), Lv F (addL w N q) k i → (k = 9 ∧ i = 3 * w + N 24 w) ∨ Lv F N k i
  | 0, _, h => Or.inr h
  | 1, _, h => Or.inr h
  | 2, _, h => Or.inr h
  | 3, _, h => Or.inr h
  | 4, _, h => Or.inr h
  | 5, _, h => Or.inr h
  | 6, _, h => Or.inr h
  | 7, _, h => Or.inr h
  | 8, _, h => Or.inr h
  | 9, i, h => by
    have h1 : TL F N (i / 3) := h.1
    have h2 := h.2
    unfold addL at h2
    by_cases e : i / 3 = w
    · rw [e, up2_eq] at h2
      by_cases e2 : i % 3 = N 24 w
      · exact Or.inl ⟨rfl, by omega⟩
      · refine Or.inr ⟨h1, ?_⟩
        rw [e]
        omega
    · rw [up2_ne (Or.inr e)] at h2
      exact Or.inr ⟨h1, h2⟩
  | _ + 10, _, h => h.elim
def adG (ad : Nat → Nat → Nat) (w n z ea : Nat) : Nat → Nat → Nat := up2 (up2 ad 9 (3 * w + n) z) 2 (100 + w) ea
theorem adG_ne {w n z ea k i : Nat} (h1 : ¬ (k = 9 ∧ i = 3 * w + n)) (h2 : ¬ (k = 2 ∧ i = 100 + w)) : adG ad w n z ea k i = ad k i := by
  unfold adG
  rw [up2_ne (by omega), up2_ne (by omega)]
theorem adG_z {w n z ea : Nat} : adG ad w n z ea 9 (3 * w + n) = z := by
  unfold adG
  rw [up2_ne (Or.inl (by decide)), up2_eq]
theorem adG_e {w n z ea : Nat} : adG ad w n z ea 2 (100 + w) = ea := up2_eq _ _ _ _
theorem CW.addG {w n0 z ea : Nat} {q : Nat × Nat × Nat} (h : CW D cA A sa ad F N Z E H) (hF : F 3 ≤ 16) (hN : NB N) (hw : TL F N w) (hn3 : N 24 w < 3)
    (hP : ∃ (mc : Int) (cap : Nat), 1 ≤ cap ∧ cap ≤ 90 ∧ LiS D cA (ad 1 (100 + w)) mc ea (N 24 w + 1) cap (va_up (fun j => ad 9 (3 * w + j)) (N 24 w) z) H1) (hQ : va_at D CL (z, .inr (7, [.ref (ad 4 q.1), .int (iI (q.2.1 : Int)), .int (iI (q.2.2 : Int))])) H1)
    (hlt : ∀ k i, Lv F N k i → ad k i < n0) (hz0 : n0 ≤ z) (hea : ea = ad 2 (100 + w) ∨ (n0 ≤ ea ∧ ea ≠ z)) (hAz : A z) (hAe : A ea) (hk : ∀ q, q < n0 → ¬ (q = ad 1 (100 + w) ∨ q = ad 2 (100 + w)) → H1[q]? = H[q]?) (hz : H.size ≤ H1.size) : CW D cA A sa (adG ad w (N 24 w) z ea) F (addL w N q) Z E H1 := by
  have kp := h.butL (i0 := 100 + w) (lv_lg hw) (lv_eg hw) hlt hk
  refine ⟨⟨h.c0.kept (kp 0 0 (by show 0 < 3; omega) (Or.inl (by decide))),
      h.c1.kept (kp 0 1 (by show 1 < 3; omega) (Or.inl (by decide))),
      h.c2.kept (kp 0 2 (by show 2 < 3; omega) (Or.inl (by decide))),
      (h.l0.kept (kp _ _ (lv_l0 0 (by omega)) (Or.inr (by omega))) (kp _ _ (lv_e0 0 (by omega)) (Or.inr (by omega)))).to rfl (adG_ne (by omega) (by omega)) (fun _ _ => rfl),
      (h.l1.kept (kp _ _ (lv_l0 1 (by omega)) (Or.inr (by omega))) (kp _ _ (lv_e0 1 (by omega)) (Or.inr (by omega)))).to rfl (adG_ne (by omega) (by omega)) (fun _ _ => rfl),
      (h.l2.kept (kp _ _ (lv_l0 2 (by omega)) (Or.inr (by omega))) (kp _ _ (lv_e0 2 (by omega)) (Or.inr (by omega)))).to rfl (adG_ne (by omega) (by omega)) (fun _ _ => rfl),
      (h.l3.kept (kp _ _ (lv_l0 3 (by omega)) (Or.inr (by omega))) (kp _ _ (lv_e0 3 (by omega)) (Or.inr (by omega)))).to rfl (adG_ne (by omega) (by omega)) (fun _ _ => rfl),
      fun j hj => (h.k3 j hj).kept (kp 3 j hj (Or.inl (by decide))),
      fun t ht => (h.k4 t ht).kept (kp 4 t ht (Or.inl (by decide))),
      fun t ht => (h.k5 t ht).kept (kp 5 t ht (Or.inl (by decide))),
      fun t ht => ((h.lp t ht).kept (kp _ _ (lv_lp ht (Nat.lt_of_lt_of_le ht hF)) (Or.inr (by have := Nat.lt_of_lt_of_le ht hF; omega))) (kp _ _ (lv_ep ht (Nat.lt_of_lt_of_le ht hF)) (Or.inr (by have := Nat.lt_of_lt_of_le ht hF; omega)))).to rfl (adG_ne (by omega) (by have := Nat.lt_of_lt_of_le ht hF; omega)) (fun _ _ => rfl),
      fun t k ht hk => (h.k6 t k ht hk).kept (kp _ _ (lv_6 ht hk (hN 8 t)) (Or.inl (by decide))),
      fun b hb => (h.k7 b hb).kept (kp 7 b hb (Or.inl (by decide))),
      fun w hw => (h.k8 w hw).kept (kp 8 w hw (Or.inl (by decide))),
      fun x hx => by
        by_cases e : x = w
        · subst e
          obtain ⟨mc, cap, c1, c2, q1⟩ := hP
          refine ⟨mc, cap, c1, c2, ?_⟩
          rw [adG_e]
          have e1 : addL x N q 24 x = N 24 x + 1 := up2_eq _ _ _ _
          rw [e1]
          have e2 : gl (N 24 x + 1) (va_up (fun j => ad 9 (3 * x + j)) (N 24 x) z) = gl (N 24 x + 1) (fun j => adG ad x (N 24 x) z ea 9 (3 * x + j)) := gl_ext (fun j hj => by
            by_cases e3 : j = N 24 x
            · rw [e3, va_up_self, adG_z]
            · rw [va_up_ne _ _ e3, adG_ne (by omega) (by omega)])
          obtain ⟨r1, r2, r3⟩ := q1
          rw [e2] at r2
          exact ⟨r1, r2, r3⟩
        · have e1 : addL w N q 24 x = N 24 x := up2_ne (Or.inr e)
          rw [e1]
          have h3 : N 24 x ≤ 3 := hN 24 x
          exact ((h.lg x hx).kept (kp _ _ (lv_lg hx) (Or.inr (by omega))) (kp _ _ (lv_eg hx) (Or.inr (by omega)))).to rfl (adG_ne (by omega) (by omega)) (fun j hj => (adG_ne (by omega) (by omega)).symm),
      fun x i hx hi => by
        by_cases e : x = w ∧ i = N 24 w
        · obtain ⟨e1, e2⟩ := e
          subst e1
          subst e2
          rw [adG_z]
          have e3 : eG (adG ad x (N 24 x) z ea) (addL x N q) (3 * x + N 24 x) = .inr (7, [.ref (ad 4 q.1), .int (iI (q.2.1 : Int)), .int (iI (q.2.2 : Int))]) := by
            have a1 : addL x N q 27 (3 * x + N 24 x) = q.1 := by unfold addL; rw [up2_ne (Or.inl (by decide)), up2_ne (Or.inl (by decide)), up2_ne (Or.inl (by decide)), up2_eq]
            have a2 : addL x N q 28 (3 * x + N 24 x) = q.2.1 := by unfold addL; rw [up2_ne (Or.inl (by decide)), up2_ne (Or.inl (by decide)), up2_eq]
            have a3 : addL x N q 29 (3 * x + N 24 x) = q.2.2 := by unfold addL; rw [up2_ne (Or.inl (by decide)), up2_eq]
            rw [eG, a1, a2, a3, adG_ne (by omega) (by omega)]
          rw [e3]
          exact hQ
        · have h3 : N 24 x ≤ 3 := hN 24 x
          have h4 : N 24 w ≤ 3 := hN 24 w
          have hi' : i < N 24 x := by
            by_cases e1 : x = w
            · subst e1
              have e2 : addL x N q 24 x = N 24 x + 1 := up2_eq _ _ _ _
              rw [e2] at hi
              omega
            · have e2 : addL w N q 24 x = N 24 x := up2_ne (Or.inr e1)
              rw [e2] at hi
              exact hi
          have hne : 3 * x + i ≠ 3 * w + N 24 w := by omega
          rw [adG_ne (by omega) (by omega)]
          have a1 : addL w N q 27 (3 * x + i) = N 27 (3 * x + i) := by unfold addL; rw [up2_ne (Or.inl (by decide)), up2_ne (Or.inl (by decide)), up2_ne (Or.inl (by decide)), up2_ne (Or.inr hne)]
          have a2 : addL w N q 28 (3 * x + i) = N 28 (3 * x + i) := by unfold addL; rw [up2_ne (Or.inl (by decide)), up2_ne (Or.inl (by decide)), up2_ne (Or.inr hne), up2_ne (Or.inl (by decide))]
          have a3 : addL w N q 29 (3 * x + i) = N 29 (3 * x + i) := by unfold addL; rw [up2_ne (Or.inl (by decide)), up2_ne (Or.inr hne), up2_ne (Or.inl (by decide)), up2_ne (Or.inl (by decide))]
          rw [eG, a1, a2, a3, adG_ne (by omega) (by omega)]
          exact (h.k9 x i hx hi').kept (kp _ _ (lv_9 hx hi' h3) (Or.inl (by decide)))⟩, ?_⟩
  refine h.2.ext (fun k i => (k = 9 ∧ i = 3 * w + N 24 w) ∨ (k = 2 ∧ i = 100 + w)) hz (fun k i hl => ?_) (fun k i hn => ?_) (fun k i k' i' h1 h2 e => ?_) (fun k i k' i' h1 h2 h3 => ?_)
  · by_cases hn : (k = 9 ∧ i = 3 * w + N 24 w) ∨ (k = 2 ∧ i = 100 + w)
    · exact Or.inl hn
    · exact Or.inr ⟨hn, (Lv_addG k i hl).elim (fun x => absurd (Or.inl x) hn) id, adG_ne (fun x => hn (Or.inl x)) (fun x => hn (Or.inr x))⟩
  · rcases hn with ⟨rfl, rfl⟩ | ⟨rfl, rfl⟩
    · rw [adG_z]; exact hAz
    · rw [adG_e]; exact hAe
  · have h24 := h.lt hF hN 2 (100 + w) (lv_eg hw)
    have hl2 := hlt 2 (100 + w) (lv_eg hw)
    rcases h1 with ⟨rfl, rfl⟩ | ⟨rfl, rfl⟩ <;> rcases h2 with ⟨rfl, rfl⟩ | ⟨rfl, rfl⟩
    · exact ⟨rfl, rfl⟩
    · rw [adG_z, adG_e] at e
      rcases hea with r | r
      · omega
      · exact absurd e.symm r.2
    · rw [adG_z, adG_e] at e
      rcases hea with r | r
      · omega
      · exact absurd e r.2
    · exact ⟨rfl, rfl⟩
  · have hl3 := hlt k' i' h3
    rcases h1 with ⟨rfl, rfl⟩ | ⟨rfl, rfl⟩
    · rw [adG_z]; omega
    · rw [adG_e]
      rcases hea with r | r
      · rw [r]
        exact h.ne (lv_eg hw) h3 (by omega)
      · omega
end CA
