set_option maxRecDepth 100000
section CB
variable {D : va_G} {cA : Nat → ClassId} {A : Nat → Prop} {sa : Nat → Nat} {ad : Nat → Nat → Nat} {F : Nat → Nat} {N : Nat → Nat → Nat} {Z : Nat → Int} {E : Nat → Nat → Int} {H H1 : Heap}
variable {ad' : Nat → Nat → Nat} {n0 : Nat}
theorem CW.ext3 {F' : Nat → Nat} {N' : Nat → Nat → Nat} (h : CW D cA A sa ad F N Z E H) (new : Nat → Nat → Prop) (hlt : ∀ k i, Lv F N k i → ad k i < n0) (hgr : ∀ q, n0 ≤ q → A q) (hge : ∀ k i, new k i → n0 ≤ ad' k i)
    (hnn : ∀ k i k' i', new k i → new k' i' → ad' k i = ad' k' i' → k = k' ∧ i = i') (hl : ∀ k i, Lv F' N' k i → new k i ∨ Lv F N k i) (hold : ∀ k i, ¬ new k i → ad' k i = ad k i) (hz : n0 ≤ H1.size) : CWa A ad' F' N' H1 := by
  refine ⟨fun k i hk => ?_, fun k i k' i' h1 h2 e => ?_, fun q hq => hgr q (by omega)⟩
  · by_cases q : new k i
    · exact hgr _ (hge k i q)
    · rw [hold k i q]; exact h.hA k i ((hl k i hk).resolve_left q)
  · by_cases q : new k i <;> by_cases r : new k' i'
    · exact hnn k i k' i' q r e
    · rw [hold k' i' r] at e
      have h3 := hge k i q
      have h4 := hlt k' i' ((hl k' i' h2).resolve_left r)
      omega
    · rw [hold k i q] at e
      have h3 := hge k' i' r
      have h4 := hlt k i ((hl k i h1).resolve_left q)
      omega
    · rw [hold k i q, hold k' i' r] at e; exact h.2.2.1 k i k' i' ((hl k i h1).resolve_left q) ((hl k' i' h2).resolve_left r) e
theorem CW.setBack {b rd : Nat} (h : CW D cA A sa ad F N Z E H) (hF : F 3 ≤ 16) (hN : NB N) (hwf : WF F N) (hb4 : b < F 4) (h21 : N 21 b = 0) (h24 : N 24 (2 * b + 1) = 0) (h25 : N 25 (2 * b + 1) = 0) (h26 : N 26 (2 * b + 1) = 0) (tlx : ∀ w, TL F (up2 (up2 N 21 b 1) 20 b rd) w → w = 2 * b + 1 ∨ TL F N w) (hQ : va_at D CL (ad 7 b, .inr (5, [.ref (ad 8 (2 * b)), .ref (ad 3 (N 14 b)), .ref (ad 3 (N 17 b)), .int (iI (N 15 b : Int)), .int (iI (N 18 b : Int)), .ref (ad' 8 (2 * b + 1))])) H1) (hQ8 : va_at D CL (ad' 8 (2 * b + 1), .inr (6, [.ref (ad 3 (N 17 b)), .ref (ad 3 (N 14 b)), .int (iI (rd : Int)), .int (iI ((rd + N 18 b + N 6 (N 17 b) : Nat) : Int)), .int (iI (N 15 b : Int)), .int (iI ((1439 : Nat) : Int)), .ref (ad' 1 (100 + (2 * b + 1))), .ref (sa 0), .int (iI ((0 : Nat) : Int))])) H1) (hQl : LiS D cA (ad' 1 (100 + (2 * b + 1))) 0 (ad' 2 (100 + (2 * b + 1))) 0 1 (fun _ => 0) H1)
    (hlt : ∀ k i, Lv F N k i → ad k i < n0) (hgr : ∀ q, n0 ≤ q → A q) (hge : ∀ k i, ((k = 8 ∧ i = 2 * b + 1) ∨ (k = 1 ∧ i = 100 + (2 * b + 1)) ∨ (k = 2 ∧ i = 100 + (2 * b + 1))) → n0 ≤ ad' k i) (hnn : ∀ k i k' i', ((k = 8 ∧ i = 2 * b + 1) ∨ (k = 1 ∧ i = 100 + (2 * b + 1)) ∨ (k = 2 ∧ i = 100 + (2 * b + 1))) → ((k' = 8 ∧ i' = 2 * b + 1) ∨ (k' = 1 ∧ i' = 100 + (2 * b + 1)) ∨ (k' = 2 ∧ i' = 100 + (2 * b + 1))) → ad' k i = ad' k' i' → k = k' ∧ i = i') (hold : ∀ k i, ¬ ((k = 8 ∧ i = 2 * b + 1) ∨ (k = 1 ∧ i = 100 + (2 * b + 1)) ∨ (k = 2 ∧ i = 100 + (2 * b + 1))) → ad' k i = ad k i)
    (hk : ∀ q, q < n0 → q ≠ ad 7 b → H1[q]? = H[q]?) (hz : n0 ≤ H1.size) : CW D cA A sa ad' F (up2 (up2 N 21 b 1) 20 b rd) Z E H1 := by
  have kp : ∀ k i, Lv F N k i → (k ≠ 7 ∨ i ≠ b) → H1[ad k i]? = H[ad k i]? := fun k i hl hne => hk _ (hlt k i hl) (h.ne hl (show Lv F N 7 b from hb4) hne)
  refine ⟨⟨by
      have q := h.c0.kept (kp 0 0 (by show 0 < 3; omega) (Or.inl (by decide)))
      rw [eX, (hold 0 0 (by omega)), (hold 1 0 (by omega)), (hold 1 1 (by omega)), (hold 1 2 (by omega)), (hold 1 3 (by omega)), (hold 0 1 (by omega)), (hold 0 2 (by omega))]
      exact q,
    by
      rw [(hold 0 1 (by omega))]
      exact h.c1.kept (kp 0 1 (by show 1 < 3; omega) (Or.inl (by decide))),
    by
      rw [(hold 0 2 (by omega))]
      exact h.c2.kept (kp 0 2 (by show 2 < 3; omega) (Or.inl (by decide))),
    (h.l0.kept (kp _ _ (lv_l0 0 (by omega)) (Or.inl (by decide))) (kp _ _ (lv_e0 0 (by omega)) (Or.inl (by decide)))).to (hold 1 0 (by omega)) (hold 2 0 (by omega)) (fun j hj => (hold 3 j (by omega)).symm),
    (h.l1.kept (kp _ _ (lv_l0 1 (by omega)) (Or.inl (by decide))) (kp _ _ (lv_e0 1 (by omega)) (Or.inl (by decide)))).to (hold 1 1 (by omega)) (hold 2 1 (by omega)) (fun j hj => (hold 4 j (by omega)).symm),
    (h.l2.kept (kp _ _ (lv_l0 2 (by omega)) (Or.inl (by decide))) (kp _ _ (lv_e0 2 (by omega)) (Or.inl (by decide)))).to (hold 1 2 (by omega)) (hold 2 2 (by omega)) (fun j hj => (hold 7 j (by omega)).symm),
    (h.l3.kept (kp _ _ (lv_l0 3 (by omega)) (Or.inl (by decide))) (kp _ _ (lv_e0 3 (by omega)) (Or.inl (by decide)))).to (hold 1 3 (by omega)) (hold 2 3 (by omega)) (fun j hj => rfl),
    fun j hj => by
      show va_at D CL (ad' 3 j, eS j (N 6 j)) H1
      rw [(hold 3 j (by omega))]
      exact (h.k3 j hj).kept (kp 3 j hj (Or.inl (by decide))),
    fun t ht => by
      show va_at D CL (ad' 4 t, eT ad' N t) H1
      have ht6 := Nat.lt_of_lt_of_le ht hF
      rw [(hold 4 t (by omega)), eT, (hold 1 (10 + t) (by omega)), (hold 5 t (by omega))]
      exact (h.k4 t ht).kept (kp 4 t ht (Or.inl (by decide))),
    fun t ht => by
      rw [(hold 5 t (by omega))]
      exact (h.k5 t ht).kept (kp 5 t ht (Or.inl (by decide))),
    fun t ht => by
      show Lst D cA ad' (10 + t) (N 8 t) (fun j => ad' 6 (10 * t + j)) H1
      have ht6 : t < 16 := Nat.lt_of_lt_of_le ht hF
      have h8 : N 8 t ≤ 10 := hN 8 t
      exact ((h.lp t ht).kept (kp _ _ (lv_lp ht ht6) (Or.inl (by decide))) (kp _ _ (lv_ep ht ht6) (Or.inl (by decide)))).to (hold 1 (10 + t) (by omega)) (hold 2 (10 + t) (by omega)) (fun j hj => (hold 6 (10 * t + j) (by omega)).symm),
    fun t k ht hk => by
      show va_at D CL (ad' 6 (10 * t + k), eP ad' N (10 * t + k)) H1
      have h9 := hwf.1 t k ht hk
      have h8 : N 8 t ≤ 10 := hN 8 t
      rw [(hold 6 (10 * t + k) (by omega)), eP, (hold 3 (N 9 (10 * t + k)) (by omega))]
      exact (h.k6 t k ht hk).kept (kp _ _ (lv_6 ht hk h8) (Or.inl (by decide))),
    fun x hx => by
      have h14 := hwf.2.1 x hx
      by_cases e : x = b
      · subst e
        have e21 : (up2 (up2 N 21 x 1) 20 x rd) 21 x = 1 := by rw [up2_ne (Or.inl (by decide)), up2_eq]
        rw [eB, e21, if_neg (by decide)]
        show va_at D CL (ad' 7 x, .inr (5, [.ref (ad' 8 (2 * x)), .ref (ad' 3 (N 14 x)), .ref (ad' 3 (N 17 x)), .int (iI (N 15 x : Int)), .int (iI (N 18 x : Int)), .ref (ad' 8 (2 * x + 1))])) H1
        rw [hold 7 x (by omega), hold 8 (2 * x) (by omega), hold 3 (N 14 x) (by omega), hold 3 (N 17 x) (by omega)]
        exact hQ
      · have e21 : (up2 (up2 N 21 b 1) 20 b rd) 21 x = N 21 x := by rw [up2_ne (Or.inl (by decide)), up2_ne (Or.inr e)]
        rw [eB, e21]
        show va_at D CL (ad' 7 x, eB ad' N x) H1
        rw [eB, hold 7 x (by omega), hold 8 (2 * x) (by omega), hold 3 (N 14 x) (by omega), hold 3 (N 17 x) (by omega), hold 8 (2 * x + 1) (by omega)]
        exact (h.k7 x hx).kept (kp 7 x hx (Or.inr e)),
    fun w hw => by
      rcases tlx w hw with e | hw'
      · subst e
        have h14 := hwf.2.1 b hb4
        have d2 : (2 * b + 1) / 2 = b := by omega
        have a1 : frW (up2 (up2 N 21 b 1) 20 b rd) (2 * b + 1) = N 17 b := by unfold frW; rw [if_neg (by omega), d2]; rfl
        have a2 : toW (up2 (up2 N 21 b 1) 20 b rd) (2 * b + 1) = N 14 b := by unfold toW; rw [if_neg (by omega), d2]; rfl
        have a3 : rdW (up2 (up2 N 21 b 1) 20 b rd) (2 * b + 1) = rd := by unfold rdW; rw [if_neg (by omega), d2, up2_eq]
        have a4 : wfW (up2 (up2 N 21 b 1) 20 b rd) (2 * b + 1) = N 18 b := by unfold wfW; rw [if_neg (by omega), d2]; rfl
        have a5 : wtW (up2 (up2 N 21 b 1) 20 b rd) (2 * b + 1) = N 15 b := by unfold wtW; rw [if_neg (by omega), d2]; rfl
        have a6 : duW (up2 (up2 N 21 b 1) 20 b rd) (2 * b + 1) = 1439 := by unfold duW; rw [if_neg (by omega)]
        have a7 : bgW (up2 (up2 N 21 b 1) 20 b rd) (2 * b + 1) = rd + N 18 b + N 6 (N 17 b) := by unfold bgW; rw [a1, a3, a4]; rfl
        rw [eW, a1, a2, a3, a5, a6, a7]
        show va_at D CL (ad' 8 (2 * b + 1), .inr (6, [.ref (ad' 3 (N 17 b)), .ref (ad' 3 (N 14 b)), .int (iI (rd : Int)), .int (iI ((rd + N 18 b + N 6 (N 17 b) : Nat) : Int)), .int (iI (N 15 b : Int)), .int (iI ((1439 : Nat) : Int)), .ref (ad' 1 (100 + (2 * b + 1))), .ref (sa (N 25 (2 * b + 1))), .int (iI (N 26 (2 * b + 1) : Int))])) H1
        rw [h25, h26, hold 3 (N 17 b) (by omega), hold 3 (N 14 b) (by omega)]
        exact hQ8
      · have hne : w ≠ 2 * b + 1 := fun e => by subst e; exact absurd h21 (by have := hw'.2; rw [show (2 * b + 1) / 2 = b by omega] at this; omega)
        have hfr := frW_lt hwf hw'
        have hto := toW_lt hwf hw'
        have a3 : rdW (up2 (up2 N 21 b 1) 20 b rd) w = rdW N w := by
          unfold rdW
          by_cases e : w % 2 = 0
          · rw [if_pos e, if_pos e]; rfl
          · rw [if_neg e, if_neg e, up2_ne (Or.inr (by omega))]; rfl
        have a7 : bgW (up2 (up2 N 21 b 1) 20 b rd) w = bgW N w := by unfold bgW; rw [a3]; rfl
        rw [eW, a3, a7]
        show va_at D CL (ad' 8 w, .inr (6, [.ref (ad' 3 (frW N w)), .ref (ad' 3 (toW N w)), .int (iI (rdW N w : Int)), .int (iI (bgW N w : Int)), .int (iI (wtW N w : Int)), .int (iI (duW N w : Int)), .ref (ad' 1 (100 + w)), .ref (sa (N 25 w)), .int (iI (N 26 w : Int))])) H1
        rw [hold 8 w (by omega), hold 3 (frW N w) (by omega), hold 3 (toW N w) (by omega), hold 1 (100 + w) (by omega)]
        exact (h.k8 w hw').kept (kp 8 w hw' (Or.inl (by decide))),
    fun w hw => by
      show Lst D cA ad' (100 + w) (N 24 w) (fun j => ad' 9 (3 * w + j)) H1
      rcases tlx w hw with e | hw'
      · subst e
        rw [h24]
        exact ⟨0, 1, by decide, by decide, hQl.to (fun j hj => absurd hj (Nat.not_lt_zero _))⟩
      · have hne : w ≠ 2 * b + 1 := fun e => by subst e; exact absurd h21 (by have := hw'.2; rw [show (2 * b + 1) / 2 = b by omega] at this; omega)
        have h24 : N 24 w ≤ 3 := hN 24 w
        exact ((h.lg w hw').kept (kp _ _ (lv_lg hw') (Or.inl (by decide))) (kp _ _ (lv_eg hw') (Or.inl (by decide)))).to (hold 1 (100 + w) (by omega)) (hold 2 (100 + w) (by omega)) (fun j hj => (hold 9 (3 * w + j) (by omega)).symm),
    fun w i hw hi => by
      have hi : i < N 24 w := hi
      show va_at D CL (ad' 9 (3 * w + i), eG ad' N (3 * w + i)) H1
      rcases tlx w hw with e | hw'
      · subst e
        rw [h24] at hi
        omega
      · have hg := hwf.2.2.1 w i hw' hi
        rw [hold 9 (3 * w + i) (by omega), eG, hold 4 (N 27 (3 * w + i)) (by omega)]
        exact (h.k9 w i hw' hi).kept (kp _ _ (lv_9 hw' hi (hN 24 w)) (Or.inl (by decide)))⟩, h.ext3 (fun k i => (k = 8 ∧ i = 2 * b + 1) ∨ (k = 1 ∧ i = 100 + (2 * b + 1)) ∨ (k = 2 ∧ i = 100 + (2 * b + 1))) hlt hgr hge hnn (fun k i hl => by
    match k, hl with
    | 0, hl => exact Or.inr hl
    | 1, hl =>
      rcases hl with q | q | q
      · exact Or.inr (Or.inl q)
      · exact Or.inr (Or.inr (Or.inl q))
      · rcases tlx _ q.2 with e | e
        · exact Or.inl (by omega)
        · exact Or.inr (Or.inr (Or.inr ⟨q.1, e⟩))
    | 2, hl =>
      rcases hl with q | q | q
      · exact Or.inr (Or.inl q)
      · exact Or.inr (Or.inr (Or.inl q))
      · rcases tlx _ q.2 with e | e
        · exact Or.inl (by omega)
        · exact Or.inr (Or.inr (Or.inr ⟨q.1, e⟩))
    | 3, hl => exact Or.inr hl
    | 4, hl => exact Or.inr hl
    | 5, hl => exact Or.inr hl
    | 6, hl => exact Or.inr hl
    | 7, hl => exact Or.inr hl
    | 8, hl =>
      rcases tlx _ hl with e | e
      · exact Or.inl (by omega)
      · exact Or.inr e
    | 9, hl =>
      rcases tlx _ hl.1 with e | e
      · have h2 : i % 3 < N 24 (i / 3) := hl.2
        rw [e, h24] at h2
        omega
      · exact Or.inr ⟨e, hl.2⟩
    | _ + 10, hl => exact hl.elim) hold hz⟩
end CB
