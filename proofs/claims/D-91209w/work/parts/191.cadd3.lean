set_option maxRecDepth 100000
/-! the component's world: new trains, boxes, ways back -/
theorem boxN_row {N : Nat → Nat → Nat} {b h w r d wt u : Nat} (k v x : Nat) (hk : k = 14 ∧ v = h ∨ k = 15 ∧ v = w ∨ k = 16 ∧ v = r ∨ k = 17 ∧ v = d ∨ k = 18 ∧ v = wt ∨ k = 19 ∧ v = u) : boxN N b h w r d wt u k x = if x = b then v else N k x := by
  unfold boxN
  by_cases e : x = b
  · rw [if_pos e, e]
    rcases hk with ⟨rfl, rfl⟩ | ⟨rfl, rfl⟩ | ⟨rfl, rfl⟩ | ⟨rfl, rfl⟩ | ⟨rfl, rfl⟩ | ⟨rfl, rfl⟩ <;> simp [up2]
  · rw [if_neg e]
    rcases hk with ⟨rfl, rfl⟩ | ⟨rfl, rfl⟩ | ⟨rfl, rfl⟩ | ⟨rfl, rfl⟩ | ⟨rfl, rfl⟩ | ⟨rfl, rfl⟩ <;> simp [up2, e]
theorem boxN_out {N : Nat → Nat → Nat} {b h w r d wt u : Nat} (k x : Nat) (hx : x ≠ b) : boxN N b h w r d wt u k x = N k x := by
  unfold boxN up2
  simp [hx]
section CB
variable {D : va_G} {cA : Nat → ClassId} {A : Nat → Prop} {sa : Nat → Nat} {ad : Nat → Nat → Nat} {F : Nat → Nat} {N : Nat → Nat → Nat} {Z : Nat → Int} {E : Nat → Nat → Int} {H H1 : Heap}
variable {ad' : Nat → Nat → Nat} {n0 : Nat}
theorem CW.addT {rm : Nat} (h : CW D cA A sa ad F N Z E H) (hF : F 3 ≤ 16) (hN : NB N) (hwf : WF F N) (hT : F 3 < 16) (h8 : N 8 (F 3) = 0) (h13 : N 13 (F 3) = 0) (h23 : N 23 (F 3) = 0) (hZ0 : ∀ j, j < 10 → Z (10 * F 3 + j) = 0) (hP : ∃ (mc : Int) (cap : Nat), 1 ≤ cap ∧ cap ≤ 90 ∧ LiS D cA (ad 1 1) mc (ad' 2 1) (F 3 + 1) cap (va_up (ad 4) (F 3) (ad' 4 (F 3))) H1) (hQ : va_at D CL (ad' 4 (F 3), .inr (3, [.int (iI (F 3 : Int)), .int (iI (rm : Int)), .ref (ad' 1 (10 + F 3)), .ref (ad' 5 (F 3)), .int (iI ((0 : Nat) : Int)), .int (iI ((0 : Nat) : Int))])) H1) (hQ5 : va_at D CL (ad' 5 (F 3), eI cA 10 (fun _ => 0)) H1) (hQl : LiS D cA (ad' 1 (10 + F 3)) 0 (ad' 2 (10 + F 3)) 0 2 (fun _ => 0) H1)
    (hlt : ∀ k i, Lv F N k i → ad k i < n0) (hgr : ∀ q, n0 ≤ q → A q) (hge : ∀ k i, ((k = 2 ∧ i = 1) ∨ (k = 4 ∧ i = F 3) ∨ (k = 5 ∧ i = F 3) ∨ (k = 1 ∧ i = 10 + F 3) ∨ (k = 2 ∧ i = 10 + F 3)) → n0 ≤ ad' k i ∨ (k = 2 ∧ i = 1 ∧ ad' 2 (1) = ad 2 (1))) (hnn : ∀ k i k' i', ((k = 2 ∧ i = 1) ∨ (k = 4 ∧ i = F 3) ∨ (k = 5 ∧ i = F 3) ∨ (k = 1 ∧ i = 10 + F 3) ∨ (k = 2 ∧ i = 10 + F 3)) → ((k' = 2 ∧ i' = 1) ∨ (k' = 4 ∧ i' = F 3) ∨ (k' = 5 ∧ i' = F 3) ∨ (k' = 1 ∧ i' = 10 + F 3) ∨ (k' = 2 ∧ i' = 10 + F 3)) → ad' k i = ad' k' i' → k = k' ∧ i = i') (hold : ∀ k i, ¬ ((k = 2 ∧ i = 1) ∨ (k = 4 ∧ i = F 3) ∨ (k = 5 ∧ i = F 3) ∨ (k = 1 ∧ i = 10 + F 3) ∨ (k = 2 ∧ i = 10 + F 3)) → ad' k i = ad k i)
    (hk : ∀ q, q < n0 → ¬ (q = ad 1 (1) ∨ q = ad 2 (1)) → H1[q]? = H[q]?) (hz : n0 ≤ H1.size) : CW D cA A sa ad' (va_up F 3 (F 3 + 1)) (up2 N 7 (F 3) rm) Z E H1 := by
  have kp := h.butN (i0 := 1) (lv_l0 1 (by omega)) (lv_e0 1 (by omega)) hlt hk
  refine ⟨⟨by
      have q := h.c0.kept (kp 0 0 (by show 0 < 3; omega) (Or.inl (by decide)))
      rw [eX, (hold 0 0 (by omega)), (hold 1 0 (by omega)), (hold 1 1 (by omega)), (hold 1 2 (by omega)), (hold 1 3 (by omega)), (hold 0 1 (by omega)), (hold 0 2 (by omega))]
      exact q,
    by
      rw [(hold 0 1 (by omega))]
      exact h.c1.kept (kp 0 1 (by show 1 < 3; omega) (Or.inl (by decide))),
    by
      rw [(hold 0 2 (by omega))]
      exact h.c2.kept (kp 0 2 (by show 2 < 3; omega) (Or.inl (by decide))),
    (h.l0.kept (kp _ _ (lv_l0 0 (by omega)) (Or.inr (by omega))) (kp _ _ (lv_e0 0 (by omega)) (Or.inr (by omega)))).to (hold 1 0 (by omega)) (hold 2 0 (by omega)) (fun j hj => (hold 3 j (by omega)).symm),
    by
      obtain ⟨mc, cap, c1, c2, q1⟩ := hP
      refine ⟨mc, cap, c1, c2, ?_⟩
      rw [hold 1 1 (by omega)]
      exact q1.to (fun j hj => by
        have hj : j < F 3 + 1 := hj
        by_cases e : j = F 3
        · rw [e, va_up_self]
        · rw [va_up_ne _ _ e, hold 4 j (by omega)]),
    (h.l2.kept (kp _ _ (lv_l0 2 (by omega)) (Or.inr (by omega))) (kp _ _ (lv_e0 2 (by omega)) (Or.inr (by omega)))).to (hold 1 2 (by omega)) (hold 2 2 (by omega)) (fun j hj => (hold 7 j (by omega)).symm),
    (h.l3.kept (kp _ _ (lv_l0 3 (by omega)) (Or.inr (by omega))) (kp _ _ (lv_e0 3 (by omega)) (Or.inr (by omega)))).to (hold 1 3 (by omega)) (hold 2 3 (by omega)) (fun j hj => rfl),
    fun j hj => by
      show va_at D CL (ad' 3 j, eS j (N 6 j)) H1
      rw [(hold 3 j (by omega))]
      exact (h.k3 j hj).kept (kp 3 j hj (Or.inl (by decide))),
    fun t ht => by
      have ht : t < F 3 + 1 := ht
      by_cases e : t = F 3
      · subst e
        have e7 : up2 N 7 (F 3) rm 7 (F 3) = rm := up2_eq _ _ _ _
        rw [eT, e7]
        show va_at D CL (ad' 4 (F 3), .inr (3, [.int (iI (F 3 : Int)), .int (iI (rm : Int)), .ref (ad' 1 (10 + F 3)), .ref (ad' 5 (F 3)), .int (iI (N 13 (F 3) : Int)), .int (iI (N 23 (F 3) : Int))])) H1
        rw [h13, h23]
        exact hQ
      · have e7 : up2 N 7 (F 3) rm 7 t = N 7 t := up2_ne (Or.inr e)
        rw [eT, e7, hold 4 t (by omega), hold 1 (10 + t) (by omega), hold 5 t (by omega)]
        exact (h.k4 t (by omega)).kept (kp 4 t (by show _ < _; omega) (Or.inl (by decide))),
    fun t ht => by
      have ht : t < F 3 + 1 := ht
      by_cases e : t = F 3
      · subst e
        exact arr_to hQ5 (fun j hj => by show iI 0 = iI (Z (10 * F 3 + j)); rw [hZ0 j hj])
      · rw [hold 5 t (by omega)]
        exact (h.k5 t (by omega)).kept (kp 5 t (by show _ < _; omega) (Or.inl (by decide))),
    fun t ht => by
      have ht : t < F 3 + 1 := ht
      show Lst D cA ad' (10 + t) (N 8 t) (fun j => ad' 6 (10 * t + j)) H1
      by_cases e : t = F 3
      · subst e
        rw [h8]
        exact ⟨0, 2, by decide, by decide, hQl.to (fun j hj => absurd hj (Nat.not_lt_zero _))⟩
      · have h9 : N 8 t ≤ 10 := hN 8 t
        have ht' : t < F 3 := by omega
        exact ((h.lp t ht').kept (kp _ _ (lv_lp ht' (by omega)) (Or.inr (by omega))) (kp _ _ (lv_ep ht' (by omega)) (Or.inr (by omega)))).to (hold 1 (10 + t) (by omega)) (hold 2 (10 + t) (by omega)) (fun j hj => (hold 6 (10 * t + j) (by omega)).symm),
    fun t k ht hk => by
      have ht : t < F 3 + 1 := ht
      have hk : k < N 8 t := hk
      show va_at D CL (ad' 6 (10 * t + k), eP ad' N (10 * t + k)) H1
      have ht' : t < F 3 := by
        by_cases e : t = F 3
        · subst e; rw [h8] at hk; omega
        · omega
      have h9 := hwf.1 t k ht' hk
      rw [hold 6 (10 * t + k) (by omega), eP, hold 3 (N 9 (10 * t + k)) (by omega)]
      exact (h.k6 t k ht' hk).kept (kp _ _ (lv_6 ht' hk (hN 8 t)) (Or.inl (by decide))),
    fun b hb => by
      show va_at D CL (ad' 7 b, eB ad' N b) H1
      have h14 := hwf.2.1 b hb
      rw [(hold 7 b (by omega)), eB, (hold 8 (2 * b) (by omega)), (hold 3 (N 14 b) (by omega)), (hold 3 (N 17 b) (by omega)), (hold 8 (2 * b + 1) (by omega))]
      exact (h.k7 b hb).kept (kp 7 b hb (Or.inl (by decide))),
    fun w hw => by
      show va_at D CL (ad' 8 w, eW ad' sa N w) H1
      have hfr := frW_lt hwf hw
      have hto := toW_lt hwf hw
      rw [(hold 8 w (by omega)), eW, (hold 3 (frW N w) (by omega)), (hold 3 (toW N w) (by omega)), (hold 1 (100 + w) (by omega))]
      exact (h.k8 w hw).kept (kp 8 w hw (Or.inl (by decide))),
    fun w hw => by
      show Lst D cA ad' (100 + w) (N 24 w) (fun j => ad' 9 (3 * w + j)) H1
      have h24 : N 24 w ≤ 3 := hN 24 w
      exact ((h.lg w hw).kept (kp _ _ (lv_lg hw) (Or.inr (by omega))) (kp _ _ (lv_eg hw) (Or.inr (by omega)))).to (hold 1 (100 + w) (by omega)) (hold 2 (100 + w) (by omega)) (fun j hj => (hold 9 (3 * w + j) (by omega)).symm),
    fun w i hw hi => by
      show va_at D CL (ad' 9 (3 * w + i), eG ad' N (3 * w + i)) H1
      have hg := hwf.2.2.1 w i hw hi
      have h24 : N 24 w ≤ 3 := hN 24 w
      rw [(hold 9 (3 * w + i) (by omega)), eG, (hold 4 (N 27 (3 * w + i)) (by omega))]
      exact (h.k9 w i hw hi).kept (kp _ _ (lv_9 hw hi h24) (Or.inl (by decide)))⟩, h.ext2 (fun k i => (k = 2 ∧ i = 1) ∨ (k = 4 ∧ i = F 3) ∨ (k = 5 ∧ i = F 3) ∨ (k = 1 ∧ i = 10 + F 3) ∨ (k = 2 ∧ i = 10 + F 3)) (1) (lv_e0 1 (by omega)) (by omega) hlt hgr hge hnn (fun k i hl => by
    match k, hl with
    | 0, hl => exact Or.inr hl
    | 1, hl =>
      rcases hl with q | q | q
      · exact Or.inr (Or.inl q)
      · have q2 : i < 10 + (F 3 + 1) := q.2.1
        by_cases e : i = 10 + F 3
        · exact Or.inl (by omega)
        · exact Or.inr (Or.inr (Or.inl ⟨q.1, by omega, q.2.2⟩))
      · exact Or.inr (Or.inr (Or.inr q))
    | 2, hl =>
      rcases hl with q | q | q
      · exact Or.inr (Or.inl q)
      · have q2 : i < 10 + (F 3 + 1) := q.2.1
        by_cases e : i = 10 + F 3
        · exact Or.inl (by omega)
        · exact Or.inr (Or.inr (Or.inl ⟨q.1, by omega, q.2.2⟩))
      · exact Or.inr (Or.inr (Or.inr q))
    | 3, hl => exact Or.inr hl
    | 4, hl =>
      have hl : i < F 3 + 1 := hl
      by_cases e : i = F 3
      · exact Or.inl (by omega)
      · exact Or.inr (by show i < F 3; omega)
    | 5, hl =>
      have hl : i < F 3 + 1 := hl
      by_cases e : i = F 3
      · exact Or.inl (by omega)
      · exact Or.inr (by show i < F 3; omega)
    | 6, hl =>
      have h1 : i / 10 < F 3 + 1 := hl.1
      have h2 : i % 10 < N 8 (i / 10) := hl.2
      refine Or.inr ⟨?_, h2⟩
      by_cases e : i / 10 = F 3
      · rw [e, h8] at h2; omega
      · omega
    | 7, hl => exact Or.inr hl
    | 8, hl => exact Or.inr hl
    | 9, hl => exact Or.inr hl
    | _ + 10, hl => exact hl.elim) hold hz⟩
theorem CW.addB {hm wk rd dk wt du : Nat} (h : CW D cA A sa ad F N Z E H) (hF : F 3 ≤ 16) (hN : NB N) (hwf : WF F N) (h21 : N 21 (F 4) = 0) (h24 : N 24 (2 * F 4) = 0) (h25 : N 25 (2 * F 4) = 0) (h26 : N 26 (2 * F 4) = 0) (hhm : hm < F 2) (hdk : dk < F 2) (tlx : ∀ w, TL (va_up F 4 (F 4 + 1)) (boxN N (F 4) hm wk rd dk wt du) w → w = 2 * F 4 ∨ TL F N w) (hP : ∃ (mc : Int) (cap : Nat), 1 ≤ cap ∧ cap ≤ 90 ∧ LiS D cA (ad 1 2) mc (ad' 2 2) (F 4 + 1) cap (va_up (ad 7) (F 4) (ad' 7 (F 4))) H1) (hQ : va_at D CL (ad' 7 (F 4), .inr (5, [.ref (ad' 8 (2 * F 4)), .ref (ad 3 hm), .ref (ad 3 dk), .int (iI (wk : Int)), .int (iI (wt : Int)), .null])) H1) (hQ8 : va_at D CL (ad' 8 (2 * F 4), .inr (6, [.ref (ad 3 hm), .ref (ad 3 dk), .int (iI (rd : Int)), .int (iI ((rd + wk + N 6 hm : Nat) : Int)), .int (iI (wt : Int)), .int (iI (du : Int)), .ref (ad' 1 (100 + 2 * F 4)), .ref (sa 0), .int (iI ((0 : Nat) : Int))])) H1) (hQl : LiS D cA (ad' 1 (100 + 2 * F 4)) 0 (ad' 2 (100 + 2 * F 4)) 0 1 (fun _ => 0) H1)
    (hlt : ∀ k i, Lv F N k i → ad k i < n0) (hgr : ∀ q, n0 ≤ q → A q) (hge : ∀ k i, ((k = 2 ∧ i = 2) ∨ (k = 7 ∧ i = F 4) ∨ (k = 8 ∧ i = 2 * F 4) ∨ (k = 1 ∧ i = 100 + 2 * F 4) ∨ (k = 2 ∧ i = 100 + 2 * F 4)) → n0 ≤ ad' k i ∨ (k = 2 ∧ i = 2 ∧ ad' 2 (2) = ad 2 (2))) (hnn : ∀ k i k' i', ((k = 2 ∧ i = 2) ∨ (k = 7 ∧ i = F 4) ∨ (k = 8 ∧ i = 2 * F 4) ∨ (k = 1 ∧ i = 100 + 2 * F 4) ∨ (k = 2 ∧ i = 100 + 2 * F 4)) → ((k' = 2 ∧ i' = 2) ∨ (k' = 7 ∧ i' = F 4) ∨ (k' = 8 ∧ i' = 2 * F 4) ∨ (k' = 1 ∧ i' = 100 + 2 * F 4) ∨ (k' = 2 ∧ i' = 100 + 2 * F 4)) → ad' k i = ad' k' i' → k = k' ∧ i = i') (hold : ∀ k i, ¬ ((k = 2 ∧ i = 2) ∨ (k = 7 ∧ i = F 4) ∨ (k = 8 ∧ i = 2 * F 4) ∨ (k = 1 ∧ i = 100 + 2 * F 4) ∨ (k = 2 ∧ i = 100 + 2 * F 4)) → ad' k i = ad k i)
    (hk : ∀ q, q < n0 → ¬ (q = ad 1 (2) ∨ q = ad 2 (2)) → H1[q]? = H[q]?) (hz : n0 ≤ H1.size) : CW D cA A sa ad' (va_up F 4 (F 4 + 1)) (boxN N (F 4) hm wk rd dk wt du) Z E H1 := by
  have kp := h.butN (i0 := 2) (lv_l0 2 (by omega)) (lv_e0 2 (by omega)) hlt hk
  refine ⟨⟨by
      have q := h.c0.kept (kp 0 0 (by show 0 < 3; omega) (Or.inl (by decide)))
      rw [eX, (hold 0 0 (by omega)), (hold 1 0 (by omega)), (hold 1 1 (by omega)), (hold 1 2 (by omega)), (hold 1 3 (by omega)), (hold 0 1 (by omega)), (hold 0 2 (by omega))]
      exact q,
    by
      rw [(hold 0 1 (by omega))]
      exact h.c1.kept (kp 0 1 (by show 1 < 3; omega) (Or.inl (by decide))),
    by
      rw [(hold 0 2 (by omega))]
      exact h.c2.kept (kp 0 2 (by show 2 < 3; omega) (Or.inl (by decide))),
    (h.l0.kept (kp _ _ (lv_l0 0 (by omega)) (Or.inr (by omega))) (kp _ _ (lv_e0 0 (by omega)) (Or.inr (by omega)))).to (hold 1 0 (by omega)) (hold 2 0 (by omega)) (fun j hj => (hold 3 j (by omega)).symm),
    (h.l1.kept (kp _ _ (lv_l0 1 (by omega)) (Or.inr (by omega))) (kp _ _ (lv_e0 1 (by omega)) (Or.inr (by omega)))).to (hold 1 1 (by omega)) (hold 2 1 (by omega)) (fun j hj => (hold 4 j (by omega)).symm),
    by
      obtain ⟨mc, cap, c1, c2, q1⟩ := hP
      refine ⟨mc, cap, c1, c2, ?_⟩
      rw [hold 1 2 (by omega)]
      exact q1.to (fun j hj => by
        have hj : j < F 4 + 1 := hj
        by_cases e : j = F 4
        · rw [e, va_up_self]
        · rw [va_up_ne _ _ e, hold 7 j (by omega)]),
    (h.l3.kept (kp _ _ (lv_l0 3 (by omega)) (Or.inr (by omega))) (kp _ _ (lv_e0 3 (by omega)) (Or.inr (by omega)))).to (hold 1 3 (by omega)) (hold 2 3 (by omega)) (fun j hj => rfl),
    fun j hj => by
      show va_at D CL (ad' 3 j, eS j (N 6 j)) H1
      rw [(hold 3 j (by omega))]
      exact (h.k3 j hj).kept (kp 3 j hj (Or.inl (by decide))),
    fun t ht => by
      show va_at D CL (ad' 4 t, eT ad' N t) H1
      have ht6 := Nat.lt_of_lt_of_le ht hF
      rw [(hold 4 t (by omega)), eT, (hold 1 (10 + t) (by omega)), (hold 5 t (by omega))]
      exact (h.k4 t ht).kept (kp 4 t ht (Or.inl (by decide))),
    fun t ht => by
      rw [(hold 5 t (by omega))]
      exact (h.k5 t ht).kept (kp 5 t ht (Or.inl (by decide))),
    fun t ht => by
      show Lst D cA ad' (10 + t) (N 8 t) (fun j => ad' 6 (10 * t + j)) H1
      have ht6 : t < 16 := Nat.lt_of_lt_of_le ht hF
      have h8 : N 8 t ≤ 10 := hN 8 t
      exact ((h.lp t ht).kept (kp _ _ (lv_lp ht ht6) (Or.inr (by omega))) (kp _ _ (lv_ep ht ht6) (Or.inr (by omega)))).to (hold 1 (10 + t) (by omega)) (hold 2 (10 + t) (by omega)) (fun j hj => (hold 6 (10 * t + j) (by omega)).symm),
    fun t k ht hk => by
      show va_at D CL (ad' 6 (10 * t + k), eP ad' N (10 * t + k)) H1
      have h9 := hwf.1 t k ht hk
      have h8 : N 8 t ≤ 10 := hN 8 t
      rw [(hold 6 (10 * t + k) (by omega)), eP, (hold 3 (N 9 (10 * t + k)) (by omega))]
      exact (h.k6 t k ht hk).kept (kp _ _ (lv_6 ht hk h8) (Or.inl (by decide))),
    fun b hb => by
      have hb : b < F 4 + 1 := hb
      by_cases e : b = F 4
      · subst e
        rw [eB, boxN_row 14 hm (F 4) (by omega), boxN_row 15 wk (F 4) (by omega), boxN_row 17 dk (F 4) (by omega), boxN_row 18 wt (F 4) (by omega), if_pos rfl, if_pos rfl, if_pos rfl, if_pos rfl]
        show va_at D CL (ad' 7 (F 4), .inr (5, [.ref (ad' 8 (2 * F 4)), .ref (ad' 3 hm), .ref (ad' 3 dk), .int (iI (wk : Int)), .int (iI (wt : Int)), if N 21 (F 4) = 0 then .null else .ref (ad' 8 (2 * F 4 + 1))])) H1
        rw [if_pos h21, hold 3 hm (by omega), hold 3 dk (by omega)]
        exact hQ
      · have hb' : b < F 4 := by omega
        have h14 := hwf.2.1 b hb'
        rw [eB, boxN_out 14 b e, boxN_out 15 b e, boxN_out 17 b e, boxN_out 18 b e, boxN_out 21 b e, hold 7 b (by omega), hold 8 (2 * b) (by omega), hold 3 (N 14 b) (by omega), hold 3 (N 17 b) (by omega), hold 8 (2 * b + 1) (by omega)]
        exact (h.k7 b hb').kept (kp 7 b hb' (Or.inl (by decide))),
    fun w hw => by
      rcases tlx w hw with e | hw'
      · subst e
        have a1 : frW (boxN N (F 4) hm wk rd dk wt du) (2 * F 4) = hm := by unfold frW; rw [if_pos (by omega), show 2 * F 4 / 2 = F 4 by omega, boxN_row 14 hm (F 4) (by omega), if_pos rfl]
        have a2 : toW (boxN N (F 4) hm wk rd dk wt du) (2 * F 4) = dk := by unfold toW; rw [if_pos (by omega), show 2 * F 4 / 2 = F 4 by omega, boxN_row 17 dk (F 4) (by omega), if_pos rfl]
        have a3 : rdW (boxN N (F 4) hm wk rd dk wt du) (2 * F 4) = rd := by unfold rdW; rw [if_pos (by omega), show 2 * F 4 / 2 = F 4 by omega, boxN_row 16 rd (F 4) (by omega), if_pos rfl]
        have a4 : wfW (boxN N (F 4) hm wk rd dk wt du) (2 * F 4) = wk := by unfold wfW; rw [if_pos (by omega), show 2 * F 4 / 2 = F 4 by omega, boxN_row 15 wk (F 4) (by omega), if_pos rfl]
        have a5 : wtW (boxN N (F 4) hm wk rd dk wt du) (2 * F 4) = wt := by unfold wtW; rw [if_pos (by omega), show 2 * F 4 / 2 = F 4 by omega, boxN_row 18 wt (F 4) (by omega), if_pos rfl]
        have a6 : duW (boxN N (F 4) hm wk rd dk wt du) (2 * F 4) = du := by unfold duW; rw [if_pos (by omega), show 2 * F 4 / 2 = F 4 by omega, boxN_row 19 du (F 4) (by omega), if_pos rfl]
        have a7 : bgW (boxN N (F 4) hm wk rd dk wt du) (2 * F 4) = rd + wk + N 6 hm := by unfold bgW; rw [a1, a3, a4]; rfl
        rw [eW, a1, a2, a3, a5, a6, a7]
        show va_at D CL (ad' 8 (2 * F 4), .inr (6, [.ref (ad' 3 hm), .ref (ad' 3 dk), .int (iI (rd : Int)), .int (iI ((rd + wk + N 6 hm : Nat) : Int)), .int (iI (wt : Int)), .int (iI (du : Int)), .ref (ad' 1 (100 + 2 * F 4)), .ref (sa (N 25 (2 * F 4))), .int (iI (N 26 (2 * F 4) : Int))])) H1
        rw [h25, h26, hold 3 hm (by omega), hold 3 dk (by omega)]
        exact hQ8
      · have hw2 := hw'.1
        have e : w / 2 ≠ F 4 := by omega
        have hfr := frW_lt hwf hw'
        have hto := toW_lt hwf hw'
        have a1 : frW (boxN N (F 4) hm wk rd dk wt du) w = frW N w := by unfold frW; rw [boxN_out 14 _ e, boxN_out 17 _ e]
        have a2 : toW (boxN N (F 4) hm wk rd dk wt du) w = toW N w := by unfold toW; rw [boxN_out 14 _ e, boxN_out 17 _ e]
        have a3 : rdW (boxN N (F 4) hm wk rd dk wt du) w = rdW N w := by unfold rdW; rw [boxN_out 16 _ e, boxN_out 20 _ e]
        have a4 : wfW (boxN N (F 4) hm wk rd dk wt du) w = wfW N w := by unfold wfW; rw [boxN_out 15 _ e, boxN_out 18 _ e]
        have a5 : wtW (boxN N (F 4) hm wk rd dk wt du) w = wtW N w := by unfold wtW; rw [boxN_out 15 _ e, boxN_out 18 _ e]
        have a6 : duW (boxN N (F 4) hm wk rd dk wt du) w = duW N w := by unfold duW; rw [boxN_out 19 _ e]
        have a7 : bgW (boxN N (F 4) hm wk rd dk wt du) w = bgW N w := by unfold bgW; rw [a1, a3, a4]; rfl
        rw [eW, a1, a2, a3, a5, a6, a7]
        show va_at D CL (ad' 8 w, .inr (6, [.ref (ad' 3 (frW N w)), .ref (ad' 3 (toW N w)), .int (iI (rdW N w : Int)), .int (iI (bgW N w : Int)), .int (iI (wtW N w : Int)), .int (iI (duW N w : Int)), .ref (ad' 1 (100 + w)), .ref (sa (N 25 w)), .int (iI (N 26 w : Int))])) H1
        rw [hold 8 w (by omega), hold 3 (frW N w) (by omega), hold 3 (toW N w) (by omega), hold 1 (100 + w) (by omega)]
        exact (h.k8 w hw').kept (kp 8 w hw' (Or.inl (by decide))),
    fun w hw => by
      show Lst D cA ad' (100 + w) (N 24 w) (fun j => ad' 9 (3 * w + j)) H1
      rcases tlx w hw with e | hw'
      · subst e
        rw [h24]
        exact ⟨0, 1, by decide, by decide, hQl.to (fun j hj => absurd hj (Nat.not_lt_zero _))⟩
      · have hw2 := hw'.1
        have h24 : N 24 w ≤ 3 := hN 24 w
        exact ((h.lg w hw').kept (kp _ _ (lv_lg hw') (Or.inr (by omega))) (kp _ _ (lv_eg hw') (Or.inr (by omega)))).to (hold 1 (100 + w) (by omega)) (hold 2 (100 + w) (by omega)) (fun j hj => (hold 9 (3 * w + j) (by omega)).symm),
    fun w i hw hi => by
      have hi : i < N 24 w := hi
      show va_at D CL (ad' 9 (3 * w + i), eG ad' N (3 * w + i)) H1
      rcases tlx w hw with e | hw'
      · subst e
        rw [h24] at hi
        omega
      · have hg := hwf.2.2.1 w i hw' hi
        rw [hold 9 (3 * w + i) (by omega), eG, hold 4 (N 27 (3 * w + i)) (by omega)]
        exact (h.k9 w i hw' hi).kept (kp _ _ (lv_9 hw' hi (hN 24 w)) (Or.inl (by decide)))⟩, h.ext2 (fun k i => (k = 2 ∧ i = 2) ∨ (k = 7 ∧ i = F 4) ∨ (k = 8 ∧ i = 2 * F 4) ∨ (k = 1 ∧ i = 100 + 2 * F 4) ∨ (k = 2 ∧ i = 100 + 2 * F 4)) (2) (lv_e0 2 (by omega)) (by omega) hlt hgr hge hnn (fun k i hl => by
    match k, hl with
    | 0, hl => exact Or.inr hl
    | 1, hl =>
      rcases hl with q | q | q
      · exact Or.inr (Or.inl q)
      · exact Or.inr (Or.inr (Or.inl q))
      · rcases tlx _ q.2 with e | e
        · exact Or.inl (by omega)
        · exact Or.inr (Or.inr (Or.inr ⟨q.1, e⟩))
    | 2, hl =>
      rcases hl with q | q | q
      · exact Or.inr (Or.inl q)
      · exact Or.inr (Or.inr (Or.inl q))
      · rcases tlx _ q.2 with e | e
        · exact Or.inl (by omega)
        · exact Or.inr (Or.inr (Or.inr ⟨q.1, e⟩))
    | 3, hl => exact Or.inr hl
    | 4, hl => exact Or.inr hl
    | 5, hl => exact Or.inr hl
    | 6, hl => exact Or.inr hl
    | 7, hl =>
      have hl : i < F 4 + 1 := hl
      by_cases e : i = F 4
      · exact Or.inl (by omega)
      · exact Or.inr (by show i < F 4; omega)
    | 8, hl =>
      rcases tlx _ hl with e | e
      · exact Or.inl (by omega)
      · exact Or.inr e
    | 9, hl =>
      rcases tlx _ hl.1 with e | e
      · have h2 : i % 3 < N 24 (i / 3) := hl.2
        rw [e, h24] at h2
        omega
      · exact Or.inr ⟨e, hl.2⟩
    | _ + 10, hl => exact hl.elim) hold hz⟩
end CB
