set_option maxRecDepth 100000
/-! the component's world: new objects -/
section CB
variable {D : va_G} {cA : Nat → ClassId} {A : Nat → Prop} {sa : Nat → Nat} {ad : Nat → Nat → Nat} {F : Nat → Nat} {N : Nat → Nat → Nat} {Z : Nat → Int} {E : Nat → Nat → Int} {H H1 : Heap}
variable {ad' : Nat → Nat → Nat} {n0 : Nat}
theorem CW.ext2 {F' : Nat → Nat} {N' : Nat → Nat → Nat} (h : CW D cA A sa ad F N Z E H) (new : Nat → Nat → Prop) (i0 : Nat) (hl2 : Lv F N 2 i0) (hn2 : new 2 i0) (hlt : ∀ k i, Lv F N k i → ad k i < n0) (hgr : ∀ q, n0 ≤ q → A q) (hge : ∀ k i, new k i → n0 ≤ ad' k i ∨ (k = 2 ∧ i = i0 ∧ ad' 2 i0 = ad 2 i0))
    (hnn : ∀ k i k' i', new k i → new k' i' → ad' k i = ad' k' i' → k = k' ∧ i = i') (hl : ∀ k i, Lv F' N' k i → new k i ∨ Lv F N k i) (hold : ∀ k i, ¬ new k i → ad' k i = ad k i) (hz : n0 ≤ H1.size) : CWa A ad' F' N' H1 := by
  refine ⟨fun k i hk => ?_, fun k i k' i' h1 h2 e => ?_, fun q hq => hgr q (by omega)⟩
  · by_cases q : new k i
    · rcases hge k i q with r | ⟨rfl, rfl, r⟩
      · exact hgr _ r
      · rw [r]; exact h.hA 2 _ hl2
    · rw [hold k i q]; exact h.hA k i ((hl k i hk).resolve_left q)
  · have key : ∀ k i k' i', new k i → ¬ new k' i' → Lv F N k' i' → ad' k i ≠ ad k' i' := fun k i k' i' q1 q2 q3 => by
      rcases hge k i q1 with r | ⟨rfl, rfl, r⟩
      · have := hlt k' i' q3; omega
      · rw [r]
        exact h.ne hl2 q3 (by
          by_cases e1 : k' = 2
          · by_cases e2 : i' = i
            · subst e1; subst e2; exact absurd q1 q2
            · omega
          · omega)
    by_cases q : new k i <;> by_cases r : new k' i'
    · exact hnn k i k' i' q r e
    · rw [hold k' i' r] at e; exact absurd e (key k i k' i' q r ((hl k' i' h2).resolve_left r))
    · rw [hold k i q] at e; exact absurd e.symm (key k' i' k i r q ((hl k i h1).resolve_left q))
    · rw [hold k i q, hold k' i' r] at e; exact h.2.2.1 k i k' i' ((hl k i h1).resolve_left q) ((hl k' i' h2).resolve_left r) e
/-- where a list has changed, what else there was is as it was -/
theorem CW.butN (h : CW D cA A sa ad F N Z E H) {i0 : Nat} (hl1 : Lv F N 1 i0) (hl2 : Lv F N 2 i0) (hlt : ∀ k i, Lv F N k i → ad k i < n0) (hk : ∀ q, q < n0 → ¬ (q = ad 1 i0 ∨ q = ad 2 i0) → H1[q]? = H[q]?) (k i : Nat) (hl : Lv F N k i) (hne : (k ≠ 1 ∧ k ≠ 2) ∨ i ≠ i0) : H1[ad k i]? = H[ad k i]? := h.butL hl1 hl2 hlt hk k i hl hne
theorem CW.addC {d : Nat} (h : CW D cA A sa ad F N Z E H) (hF : F 3 ≤ 16) (hN : NB N) (hwf : WF F N) (hP : ∃ (mc : Int) (cap : Nat), 1 ≤ cap ∧ cap ≤ 90 ∧ LiS D cA (ad 1 3) mc (ad' 2 3) (F 5 + 1) cap (va_up (fun j => sa (10 + (128 + N 12 j))) (F 5) (sa (10 + (128 + d)))) H1)
    (hlt : ∀ k i, Lv F N k i → ad k i < n0) (hgr : ∀ q, n0 ≤ q → A q) (hge : ∀ k i, (k = 2 ∧ i = 3) → n0 ≤ ad' k i ∨ (k = 2 ∧ i = 3 ∧ ad' 2 (3) = ad 2 (3))) (hnn : ∀ k i k' i', (k = 2 ∧ i = 3) → (k' = 2 ∧ i' = 3) → ad' k i = ad' k' i' → k = k' ∧ i = i') (hold : ∀ k i, ¬ (k = 2 ∧ i = 3) → ad' k i = ad k i)
    (hk : ∀ q, q < n0 → ¬ (q = ad 1 (3) ∨ q = ad 2 (3)) → H1[q]? = H[q]?) (hz : n0 ≤ H1.size) : CW D cA A sa ad' (va_up F 5 (F 5 + 1)) (up2 N 12 (F 5) d) Z E H1 := by
  have kp := h.butN (i0 := 3) (lv_l0 3 (by omega)) (lv_e0 3 (by omega)) hlt hk
  refine ⟨⟨by
      have q := h.c0.kept (kp 0 0 (by show 0 < 3; omega) (Or.inl (by decide)))
      rw [eX, (hold 0 0 (by omega)), (hold 1 0 (by omega)), (hold 1 1 (by omega)), (hold 1 2 (by omega)), (hold 1 3 (by omega)), (hold 0 1 (by omega)), (hold 0 2 (by omega))]
      exact q,
    by
      rw [(hold 0 1 (by omega))]
      exact h.c1.kept (kp 0 1 (by show 1 < 3; omega) (Or.inl (by decide))),
    by
      rw [(hold 0 2 (by omega))]
      exact h.c2.kept (kp 0 2 (by show 2 < 3; omega) (Or.inl (by decide))),
    (h.l0.kept (kp _ _ (lv_l0 0 (by omega)) (Or.inr (by omega))) (kp _ _ (lv_e0 0 (by omega)) (Or.inr (by omega)))).to (hold 1 0 (by omega)) (hold 2 0 (by omega)) (fun j hj => (hold 3 j (by omega)).symm),
    (h.l1.kept (kp _ _ (lv_l0 1 (by omega)) (Or.inr (by omega))) (kp _ _ (lv_e0 1 (by omega)) (Or.inr (by omega)))).to (hold 1 1 (by omega)) (hold 2 1 (by omega)) (fun j hj => (hold 4 j (by omega)).symm),
    (h.l2.kept (kp _ _ (lv_l0 2 (by omega)) (Or.inr (by omega))) (kp _ _ (lv_e0 2 (by omega)) (Or.inr (by omega)))).to (hold 1 2 (by omega)) (hold 2 2 (by omega)) (fun j hj => (hold 7 j (by omega)).symm),
    by
      obtain ⟨mc, cap, c1, c2, q1⟩ := hP
      refine ⟨mc, cap, c1, c2, ?_⟩
      rw [hold 1 3 (by omega)]
      exact q1.to (fun j hj => by
        show va_up (fun j => sa (10 + (128 + N 12 j))) (F 5) (sa (10 + (128 + d))) j = sa (10 + (128 + up2 N 12 (F 5) d 12 j))
        by_cases e : j = F 5
        · rw [e, va_up_self, up2_eq]
        · rw [va_up_ne _ _ e, up2_ne (Or.inr e)]),
    fun j hj => by
      show va_at D CL (ad' 3 j, eS j (N 6 j)) H1
      rw [(hold 3 j (by omega))]
      exact (h.k3 j hj).kept (kp 3 j hj (Or.inl (by decide))),
    fun t ht => by
      show va_at D CL (ad' 4 t, eT ad' N t) H1
      have ht6 := Nat.lt_of_lt_of_le ht hF
      rw [(hold 4 t (by omega)), eT, (hold 1 (10 + t) (by omega)), (hold 5 t (by omega))]
      exact (h.k4 t ht).kept (kp 4 t ht (Or.inl (by decide))),
    fun t ht => by
      rw [(hold 5 t (by omega))]
      exact (h.k5 t ht).kept (kp 5 t ht (Or.inl (by decide))),
    fun t ht => by
      show Lst D cA ad' (10 + t) (N 8 t) (fun j => ad' 6 (10 * t + j)) H1
      have ht6 : t < 16 := Nat.lt_of_lt_of_le ht hF
      have h8 : N 8 t ≤ 10 := hN 8 t
      exact ((h.lp t ht).kept (kp _ _ (lv_lp ht ht6) (Or.inr (by omega))) (kp _ _ (lv_ep ht ht6) (Or.inr (by omega)))).to (hold 1 (10 + t) (by omega)) (hold 2 (10 + t) (by omega)) (fun j hj => (hold 6 (10 * t + j) (by omega)).symm),
    fun t k ht hk => by
      show va_at D CL (ad' 6 (10 * t + k), eP ad' N (10 * t + k)) H1
      have h9 := hwf.1 t k ht hk
      have h8 : N 8 t ≤ 10 := hN 8 t
      rw [(hold 6 (10 * t + k) (by omega)), eP, (hold 3 (N 9 (10 * t + k)) (by omega))]
      exact (h.k6 t k ht hk).kept (kp _ _ (lv_6 ht hk h8) (Or.inl (by decide))),
    fun b hb => by
      show va_at D CL (ad' 7 b, eB ad' N b) H1
      have h14 := hwf.2.1 b hb
      rw [(hold 7 b (by omega)), eB, (hold 8 (2 * b) (by omega)), (hold 3 (N 14 b) (by omega)), (hold 3 (N 17 b) (by omega)), (hold 8 (2 * b + 1) (by omega))]
      exact (h.k7 b hb).kept (kp 7 b hb (Or.inl (by decide))),
    fun w hw => by
      show va_at D CL (ad' 8 w, eW ad' sa N w) H1
      have hfr := frW_lt hwf hw
      have hto := toW_lt hwf hw
      rw [(hold 8 w (by omega)), eW, (hold 3 (frW N w) (by omega)), (hold 3 (toW N w) (by omega)), (hold 1 (100 + w) (by omega))]
      exact (h.k8 w hw).kept (kp 8 w hw (Or.inl (by decide))),
    fun w hw => by
      show Lst D cA ad' (100 + w) (N 24 w) (fun j => ad' 9 (3 * w + j)) H1
      have h24 : N 24 w ≤ 3 := hN 24 w
      exact ((h.lg w hw).kept (kp _ _ (lv_lg hw) (Or.inr (by omega))) (kp _ _ (lv_eg hw) (Or.inr (by omega)))).to (hold 1 (100 + w) (by omega)) (hold 2 (100 + w) (by omega)) (fun j hj => (hold 9 (3 * w + j) (by omega)).symm),
    fun w i hw hi => by
      show va_at D CL (ad' 9 (3 * w + i), eG ad' N (3 * w + i)) H1
      have hg := hwf.2.2.1 w i hw hi
      have h24 : N 24 w ≤ 3 := hN 24 w
      rw [(hold 9 (3 * w + i) (by omega)), eG, (hold 4 (N 27 (3 * w + i)) (by omega))]
      exact (h.k9 w i hw hi).kept (kp _ _ (lv_9 hw hi h24) (Or.inl (by decide)))⟩, h.ext2 (fun k i => k = 2 ∧ i = 3) (3) (lv_e0 3 (by omega)) (by omega) hlt hgr hge hnn (fun k i hl => Or.inr (by rw [Lv_eq rfl rfl rfl (up2_row (by decide)) (up2_row (by decide)) (up2_row (by decide))] at hl; exact hl)) hold hz⟩
theorem CW.addS {sv : Nat} (h : CW D cA A sa ad F N Z E H) (hF : F 3 ≤ 16) (hN : NB N) (hwf : WF F N) (hP : ∃ (mc : Int) (cap : Nat), 1 ≤ cap ∧ cap ≤ 90 ∧ LiS D cA (ad 1 0) mc (ad' 2 0) (F 2 + 1) cap (va_up (ad 3) (F 2) (ad' 3 (F 2))) H1) (hQ : va_at D CL (ad' 3 (F 2), eS (F 2) sv) H1)
    (hlt : ∀ k i, Lv F N k i → ad k i < n0) (hgr : ∀ q, n0 ≤ q → A q) (hge : ∀ k i, ((k = 2 ∧ i = 0) ∨ (k = 3 ∧ i = F 2)) → n0 ≤ ad' k i ∨ (k = 2 ∧ i = 0 ∧ ad' 2 (0) = ad 2 (0))) (hnn : ∀ k i k' i', ((k = 2 ∧ i = 0) ∨ (k = 3 ∧ i = F 2)) → ((k' = 2 ∧ i' = 0) ∨ (k' = 3 ∧ i' = F 2)) → ad' k i = ad' k' i' → k = k' ∧ i = i') (hold : ∀ k i, ¬ ((k = 2 ∧ i = 0) ∨ (k = 3 ∧ i = F 2)) → ad' k i = ad k i)
    (hk : ∀ q, q < n0 → ¬ (q = ad 1 (0) ∨ q = ad 2 (0)) → H1[q]? = H[q]?) (hz : n0 ≤ H1.size) : CW D cA A sa ad' (va_up F 2 (F 2 + 1)) (up2 N 6 (F 2) sv) Z E H1 := by
  have kp := h.butN (i0 := 0) (lv_l0 0 (by omega)) (lv_e0 0 (by omega)) hlt hk
  refine ⟨⟨by
      have q := h.c0.kept (kp 0 0 (by show 0 < 3; omega) (Or.inl (by decide)))
      rw [eX, (hold 0 0 (by omega)), (hold 1 0 (by omega)), (hold 1 1 (by omega)), (hold 1 2 (by omega)), (hold 1 3 (by omega)), (hold 0 1 (by omega)), (hold 0 2 (by omega))]
      exact q,
    by
      rw [(hold 0 1 (by omega))]
      exact h.c1.kept (kp 0 1 (by show 1 < 3; omega) (Or.inl (by decide))),
    by
      rw [(hold 0 2 (by omega))]
      exact h.c2.kept (kp 0 2 (by show 2 < 3; omega) (Or.inl (by decide))),
    by
      obtain ⟨mc, cap, c1, c2, q1⟩ := hP
      refine ⟨mc, cap, c1, c2, ?_⟩
      rw [hold 1 0 (by omega)]
      exact q1.to (fun j hj => by
        have hj : j < F 2 + 1 := hj
        by_cases e : j = F 2
        · rw [e, va_up_self]
        · rw [va_up_ne _ _ e, hold 3 j (by omega)]),
    (h.l1.kept (kp _ _ (lv_l0 1 (by omega)) (Or.inr (by omega))) (kp _ _ (lv_e0 1 (by omega)) (Or.inr (by omega)))).to (hold 1 1 (by omega)) (hold 2 1 (by omega)) (fun j hj => (hold 4 j (by omega)).symm),
    (h.l2.kept (kp _ _ (lv_l0 2 (by omega)) (Or.inr (by omega))) (kp _ _ (lv_e0 2 (by omega)) (Or.inr (by omega)))).to (hold 1 2 (by omega)) (hold 2 2 (by omega)) (fun j hj => (hold 7 j (by omega)).symm),
    (h.l3.kept (kp _ _ (lv_l0 3 (by omega)) (Or.inr (by omega))) (kp _ _ (lv_e0 3 (by omega)) (Or.inr (by omega)))).to (hold 1 3 (by omega)) (hold 2 3 (by omega)) (fun j hj => rfl),
    fun j hj => by
      have hj : j < F 2 + 1 := hj
      by_cases e : j = F 2
      · rw [e, up2_eq]
        exact hQ
      · rw [up2_ne (Or.inr e), hold 3 j (by omega)]
        exact (h.k3 j (by omega)).kept (kp 3 j (by show _ < _; omega) (Or.inl (by decide))),
    fun t ht => by
      show va_at D CL (ad' 4 t, eT ad' N t) H1
      have ht6 := Nat.lt_of_lt_of_le ht hF
      rw [(hold 4 t (by omega)), eT, (hold 1 (10 + t) (by omega)), (hold 5 t (by omega))]
      exact (h.k4 t ht).kept (kp 4 t ht (Or.inl (by decide))),
    fun t ht => by
      rw [(hold 5 t (by omega))]
      exact (h.k5 t ht).kept (kp 5 t ht (Or.inl (by decide))),
    fun t ht => by
      show Lst D cA ad' (10 + t) (N 8 t) (fun j => ad' 6 (10 * t + j)) H1
      have ht6 : t < 16 := Nat.lt_of_lt_of_le ht hF
      have h8 : N 8 t ≤ 10 := hN 8 t
      exact ((h.lp t ht).kept (kp _ _ (lv_lp ht ht6) (Or.inr (by omega))) (kp _ _ (lv_ep ht ht6) (Or.inr (by omega)))).to (hold 1 (10 + t) (by omega)) (hold 2 (10 + t) (by omega)) (fun j hj => (hold 6 (10 * t + j) (by omega)).symm),
    fun t k ht hk => by
      show va_at D CL (ad' 6 (10 * t + k), eP ad' N (10 * t + k)) H1
      have h9 := hwf.1 t k ht hk
      have h8 : N 8 t ≤ 10 := hN 8 t
      rw [(hold 6 (10 * t + k) (by omega)), eP, (hold 3 (N 9 (10 * t + k)) (by omega))]
      exact (h.k6 t k ht hk).kept (kp _ _ (lv_6 ht hk h8) (Or.inl (by decide))),
    fun b hb => by
      show va_at D CL (ad' 7 b, eB ad' N b) H1
      have h14 := hwf.2.1 b hb
      rw [(hold 7 b (by omega)), eB, (hold 8 (2 * b) (by omega)), (hold 3 (N 14 b) (by omega)), (hold 3 (N 17 b) (by omega)), (hold 8 (2 * b + 1) (by omega))]
      exact (h.k7 b hb).kept (kp 7 b hb (Or.inl (by decide))),
    fun w hw => by
      have hw : TL F N w := hw
      have hfr := frW_lt hwf hw
      have hto := toW_lt hwf hw
      have e1 : bgW (up2 N 6 (F 2) sv) w = bgW N w := by
        show rdW N w + wfW N w + up2 N 6 (F 2) sv 6 (frW N w) = bgW N w
        rw [up2_ne (Or.inr (by omega))]
        rfl
      rw [eW, e1]
      show va_at D CL (ad' 8 w, .inr (6, [.ref (ad' 3 (frW N w)), .ref (ad' 3 (toW N w)), .int (iI (rdW N w : Int)), .int (iI (bgW N w : Int)), .int (iI (wtW N w : Int)), .int (iI (duW N w : Int)), .ref (ad' 1 (100 + w)), .ref (sa (N 25 w)), .int (iI (N 26 w : Int))])) H1
      rw [hold 8 w (by omega), hold 3 (frW N w) (by omega), hold 3 (toW N w) (by omega), hold 1 (100 + w) (by omega)]
      exact (h.k8 w hw).kept (kp 8 w hw (Or.inl (by decide))),
    fun w hw => by
      show Lst D cA ad' (100 + w) (N 24 w) (fun j => ad' 9 (3 * w + j)) H1
      have h24 : N 24 w ≤ 3 := hN 24 w
      exact ((h.lg w hw).kept (kp _ _ (lv_lg hw) (Or.inr (by omega))) (kp _ _ (lv_eg hw) (Or.inr (by omega)))).to (hold 1 (100 + w) (by omega)) (hold 2 (100 + w) (by omega)) (fun j hj => (hold 9 (3 * w + j) (by omega)).symm),
    fun w i hw hi => by
      show va_at D CL (ad' 9 (3 * w + i), eG ad' N (3 * w + i)) H1
      have hg := hwf.2.2.1 w i hw hi
      have h24 : N 24 w ≤ 3 := hN 24 w
      rw [(hold 9 (3 * w + i) (by omega)), eG, (hold 4 (N 27 (3 * w + i)) (by omega))]
      exact (h.k9 w i hw hi).kept (kp _ _ (lv_9 hw hi h24) (Or.inl (by decide)))⟩, h.ext2 (fun k i => (k = 2 ∧ i = 0) ∨ (k = 3 ∧ i = F 2)) (0) (lv_e0 0 (by omega)) (by omega) hlt hgr hge hnn (fun k i hl => by
    match k, hl with
    | 3, hl =>
      have hl : i < F 2 + 1 := hl
      by_cases e : i = F 2
      · exact Or.inl (Or.inr ⟨rfl, e⟩)
      · exact Or.inr (by show i < F 2; omega)
    | 0, hl => exact Or.inr hl
    | 1, hl => exact Or.inr hl
    | 2, hl => exact Or.inr hl
    | 4, hl => exact Or.inr hl
    | 5, hl => exact Or.inr hl
    | 6, hl => exact Or.inr hl
    | 7, hl => exact Or.inr hl
    | 8, hl => exact Or.inr hl
    | 9, hl => exact Or.inr hl
    | _ + 10, hl => exact hl.elim) hold hz⟩
theorem CW.addP {t s mi : Nat} (h : CW D cA A sa ad F N Z E H) (hF : F 3 ≤ 16) (hN : NB N) (hwf : WF F N) (ht : t < F 3) (h10 : N 8 t < 10) (hs : s < F 2) (hP : ∃ (mc : Int) (cap : Nat), 1 ≤ cap ∧ cap ≤ 90 ∧ LiS D cA (ad 1 (10 + t)) mc (ad' 2 (10 + t)) (N 8 t + 1) cap (va_up (fun j => ad 6 (10 * t + j)) (N 8 t) (ad' 6 (10 * t + N 8 t))) H1) (hQ : va_at D CL (ad' 6 (10 * t + N 8 t), .inr (4, [.ref (ad 3 s), .int (iI (mi : Int))])) H1)
    (hlt : ∀ k i, Lv F N k i → ad k i < n0) (hgr : ∀ q, n0 ≤ q → A q) (hge : ∀ k i, ((k = 2 ∧ i = 10 + t) ∨ (k = 6 ∧ i = 10 * t + N 8 t)) → n0 ≤ ad' k i ∨ (k = 2 ∧ i = 10 + t ∧ ad' 2 (10 + t) = ad 2 (10 + t))) (hnn : ∀ k i k' i', ((k = 2 ∧ i = 10 + t) ∨ (k = 6 ∧ i = 10 * t + N 8 t)) → ((k' = 2 ∧ i' = 10 + t) ∨ (k' = 6 ∧ i' = 10 * t + N 8 t)) → ad' k i = ad' k' i' → k = k' ∧ i = i') (hold : ∀ k i, ¬ ((k = 2 ∧ i = 10 + t) ∨ (k = 6 ∧ i = 10 * t + N 8 t)) → ad' k i = ad k i)
    (hk : ∀ q, q < n0 → ¬ (q = ad 1 (10 + t) ∨ q = ad 2 (10 + t)) → H1[q]? = H[q]?) (hz : n0 ≤ H1.size) : CW D cA A sa ad' F (stopN N t s mi) Z E H1 := by
  have kp := h.butN (i0 := 10 + t) (lv_lp ht (Nat.lt_of_lt_of_le ht hF)) (lv_ep ht (Nat.lt_of_lt_of_le ht hF)) hlt hk
  refine ⟨⟨by
      have q := h.c0.kept (kp 0 0 (by show 0 < 3; omega) (Or.inl (by decide)))
      rw [eX, (hold 0 0 (by omega)), (hold 1 0 (by omega)), (hold 1 1 (by omega)), (hold 1 2 (by omega)), (hold 1 3 (by omega)), (hold 0 1 (by omega)), (hold 0 2 (by omega))]
      exact q,
    by
      rw [(hold 0 1 (by omega))]
      exact h.c1.kept (kp 0 1 (by show 1 < 3; omega) (Or.inl (by decide))),
    by
      rw [(hold 0 2 (by omega))]
      exact h.c2.kept (kp 0 2 (by show 2 < 3; omega) (Or.inl (by decide))),
    (h.l0.kept (kp _ _ (lv_l0 0 (by omega)) (Or.inr (by omega))) (kp _ _ (lv_e0 0 (by omega)) (Or.inr (by omega)))).to (hold 1 0 (by omega)) (hold 2 0 (by omega)) (fun j hj => (hold 3 j (by omega)).symm),
    (h.l1.kept (kp _ _ (lv_l0 1 (by omega)) (Or.inr (by omega))) (kp _ _ (lv_e0 1 (by omega)) (Or.inr (by omega)))).to (hold 1 1 (by omega)) (hold 2 1 (by omega)) (fun j hj => (hold 4 j (by omega)).symm),
    (h.l2.kept (kp _ _ (lv_l0 2 (by omega)) (Or.inr (by omega))) (kp _ _ (lv_e0 2 (by omega)) (Or.inr (by omega)))).to (hold 1 2 (by omega)) (hold 2 2 (by omega)) (fun j hj => (hold 7 j (by omega)).symm),
    (h.l3.kept (kp _ _ (lv_l0 3 (by omega)) (Or.inr (by omega))) (kp _ _ (lv_e0 3 (by omega)) (Or.inr (by omega)))).to (hold 1 3 (by omega)) (hold 2 3 (by omega)) (fun j hj => rfl),
    fun j hj => by
      show va_at D CL (ad' 3 j, eS j (N 6 j)) H1
      rw [(hold 3 j (by omega))]
      exact (h.k3 j hj).kept (kp 3 j hj (Or.inl (by decide))),
    fun t ht => by
      show va_at D CL (ad' 4 t, eT ad' N t) H1
      have ht6 := Nat.lt_of_lt_of_le ht hF
      rw [(hold 4 t (by omega)), eT, (hold 1 (10 + t) (by omega)), (hold 5 t (by omega))]
      exact (h.k4 t ht).kept (kp 4 t ht (Or.inl (by decide))),
    fun t ht => by
      rw [(hold 5 t (by omega))]
      exact (h.k5 t ht).kept (kp 5 t ht (Or.inl (by decide))),
    fun x hx => by
      have hx6 : x < 16 := Nat.lt_of_lt_of_le hx hF
      have h8 : N 8 x ≤ 10 := hN 8 x
      by_cases e : x = t
      · subst e
        obtain ⟨mc, cap, c1, c2, q1⟩ := hP
        refine ⟨mc, cap, c1, c2, ?_⟩
        have e8 : stopN N x s mi 8 x = N 8 x + 1 := up2_eq _ _ _ _
        rw [hold 1 (10 + x) (by omega), e8]
        exact q1.to (fun j hj => by
          by_cases e : j = N 8 x
          · rw [e, va_up_self]
          · rw [va_up_ne _ _ e, hold 6 (10 * x + j) (by omega)])
      · have e8 : stopN N t s mi 8 x = N 8 x := up2_ne (Or.inr e)
        rw [e8]
        exact ((h.lp x hx).kept (kp _ _ (lv_lp hx hx6) (Or.inr (by omega))) (kp _ _ (lv_ep hx hx6) (Or.inr (by omega)))).to (hold 1 (10 + x) (by omega)) (hold 2 (10 + x) (by omega)) (fun j hj => (hold 6 (10 * x + j) (by omega)).symm),
    fun x k hx hk => by
      have h8 : N 8 x ≤ 10 := hN 8 x
      have h8t : N 8 t ≤ 10 := hN 8 t
      by_cases e : 10 * x + k = 10 * t + N 8 t
      · have e9 : stopN N t s mi 9 (10 * t + N 8 t) = s := by unfold stopN; rw [up2_ne (Or.inl (by decide)), up2_ne (Or.inl (by decide)), up2_eq]
        have e10 : stopN N t s mi 10 (10 * t + N 8 t) = mi := by unfold stopN; rw [up2_ne (Or.inl (by decide)), up2_eq]
        rw [e, eP, e9, e10, hold 3 s (by omega)]
        exact hQ
      · have e9 : stopN N t s mi 9 (10 * x + k) = N 9 (10 * x + k) := by unfold stopN; rw [up2_ne (Or.inl (by decide)), up2_ne (Or.inl (by decide)), up2_ne (Or.inr e)]
        have e10 : stopN N t s mi 10 (10 * x + k) = N 10 (10 * x + k) := by unfold stopN; rw [up2_ne (Or.inl (by decide)), up2_ne (Or.inr e), up2_ne (Or.inl (by decide))]
        have hk' : k < N 8 x := by
          by_cases e1 : x = t
          · subst e1
            have e8 : stopN N x s mi 8 x = N 8 x + 1 := up2_eq _ _ _ _
            rw [e8] at hk
            omega
          · have e8 : stopN N t s mi 8 x = N 8 x := up2_ne (Or.inr e1)
            rw [e8] at hk
            exact hk
        rw [eP, e9, e10, hold 6 (10 * x + k) (by omega), hold 3 (N 9 (10 * x + k)) (by omega)]
        exact (h.k6 x k hx hk').kept (kp _ _ (lv_6 hx hk' h8) (Or.inl (by decide))),
    fun b hb => by
      show va_at D CL (ad' 7 b, eB ad' N b) H1
      have h14 := hwf.2.1 b hb
      rw [(hold 7 b (by omega)), eB, (hold 8 (2 * b) (by omega)), (hold 3 (N 14 b) (by omega)), (hold 3 (N 17 b) (by omega)), (hold 8 (2 * b + 1) (by omega))]
      exact (h.k7 b hb).kept (kp 7 b hb (Or.inl (by decide))),
    fun w hw => by
      show va_at D CL (ad' 8 w, eW ad' sa N w) H1
      have hfr := frW_lt hwf hw
      have hto := toW_lt hwf hw
      rw [(hold 8 w (by omega)), eW, (hold 3 (frW N w) (by omega)), (hold 3 (toW N w) (by omega)), (hold 1 (100 + w) (by omega))]
      exact (h.k8 w hw).kept (kp 8 w hw (Or.inl (by decide))),
    fun w hw => by
      show Lst D cA ad' (100 + w) (N 24 w) (fun j => ad' 9 (3 * w + j)) H1
      have h24 : N 24 w ≤ 3 := hN 24 w
      exact ((h.lg w hw).kept (kp _ _ (lv_lg hw) (Or.inr (by omega))) (kp _ _ (lv_eg hw) (Or.inr (by omega)))).to (hold 1 (100 + w) (by omega)) (hold 2 (100 + w) (by omega)) (fun j hj => (hold 9 (3 * w + j) (by omega)).symm),
    fun w i hw hi => by
      show va_at D CL (ad' 9 (3 * w + i), eG ad' N (3 * w + i)) H1
      have hg := hwf.2.2.1 w i hw hi
      have h24 : N 24 w ≤ 3 := hN 24 w
      rw [(hold 9 (3 * w + i) (by omega)), eG, (hold 4 (N 27 (3 * w + i)) (by omega))]
      exact (h.k9 w i hw hi).kept (kp _ _ (lv_9 hw hi h24) (Or.inl (by decide)))⟩, h.ext2 (fun k i => (k = 2 ∧ i = 10 + t) ∨ (k = 6 ∧ i = 10 * t + N 8 t)) (10 + t) (lv_ep ht (Nat.lt_of_lt_of_le ht hF)) (by omega) hlt hgr hge hnn (fun k i hl => by
    match k, hl with
    | 6, hl =>
      have h1 : i / 10 < F 3 := hl.1
      have h2 : i % 10 < stopN N t s mi 8 (i / 10) := hl.2
      by_cases e : i / 10 = t
      · have e8 : stopN N t s mi 8 (i / 10) = N 8 t + 1 := by rw [e]; exact up2_eq _ _ _ _
        rw [e8] at h2
        by_cases e2 : i % 10 = N 8 t
        · exact Or.inl (Or.inr ⟨rfl, by omega⟩)
        · exact Or.inr ⟨h1, by rw [e]; omega⟩
      · have e8 : stopN N t s mi 8 (i / 10) = N 8 (i / 10) := up2_ne (Or.inr e)
        rw [e8] at h2
        exact Or.inr ⟨h1, h2⟩
    | 0, hl => exact Or.inr hl
    | 1, hl => exact Or.inr hl
    | 2, hl => exact Or.inr hl
    | 3, hl => exact Or.inr hl
    | 4, hl => exact Or.inr hl
    | 5, hl => exact Or.inr hl
    | 7, hl => exact Or.inr hl
    | 8, hl => exact Or.inr hl
    | 9, hl => exact Or.inr hl
    | _ + 10, hl => exact hl.elim) hold hz⟩
end CB
