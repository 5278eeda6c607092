set_option maxRecDepth 100000
/-! the component's world, changed at a place -/
section CP
variable {D : va_G} {cA : Nat → ClassId} {A : Nat → Prop} {sa : Nat → Nat} {ad : Nat → Nat → Nat} {F : Nat → Nat} {N : Nat → Nat → Nat} {Z : Nat → Int} {E : Nat → Nat → Int} {H H1 : Heap}
theorem Lv_eq {F' : Nat → Nat} {N' : Nat → Nat → Nat} (h2 : F' 2 = F 2) (h3 : F' 3 = F 3) (h4 : F' 4 = F 4) (h8 : N' 8 = N 8) (h21 : N' 21 = N 21) (h24 : N' 24 = N 24) : Lv F' N' = Lv F N := by
  funext k i
  unfold Lv TL
  rw [h2, h3, h4, h8, h21, h24]
/-- where one address has changed, the others are as they were -/
theorem CW.but (h : CW D cA A sa ad F N Z E H) {k0 i0 : Nat} (hl0 : Lv F N k0 i0) (oq : ∀ q, q ≠ ad k0 i0 → H1[q]? = H[q]?) (k i : Nat) (hl : Lv F N k i) (hne : k ≠ k0 ∨ i ≠ i0) : H1[ad k i]? = H[ad k i]? := oq _ (h.ne hl hl0 hne)
theorem CW.setE1 {e e' : Nat → Int} (h : CW D cA A sa ad F N Z (va_up E 1 e) H) (hF : F 3 ≤ 16) (hN : NB N) (hP : va_at D CL (ad 0 1, eI cA 40 e') H1) (oq : ∀ q, q ≠ ad 0 1 → H1[q]? = H[q]?) (hz : H1.size = H.size) : CW D cA A sa ad F N Z (va_up E 1 e') H1 := by
  have kp := h.but (k0 := 0) (i0 := 1) (by show 1 < 3; omega) oq
  exact ⟨⟨h.c0.kept (kp 0 0 (by show 0 < 3; omega) (Or.inr (by decide))),
      hP,
      h.c2.kept (kp 0 2 (by show 2 < 3; omega) (Or.inr (by decide))),
      h.l0.kept (kp _ _ (lv_l0 0 (by omega)) (Or.inl (by decide))) (kp _ _ (lv_e0 0 (by omega)) (Or.inl (by decide))),
      h.l1.kept (kp _ _ (lv_l0 1 (by omega)) (Or.inl (by decide))) (kp _ _ (lv_e0 1 (by omega)) (Or.inl (by decide))),
      h.l2.kept (kp _ _ (lv_l0 2 (by omega)) (Or.inl (by decide))) (kp _ _ (lv_e0 2 (by omega)) (Or.inl (by decide))),
      h.l3.kept (kp _ _ (lv_l0 3 (by omega)) (Or.inl (by decide))) (kp _ _ (lv_e0 3 (by omega)) (Or.inl (by decide))),
      fun j hj => (h.k3 j hj).kept (kp 3 j hj (Or.inl (by decide))),
      fun t ht => (h.k4 t ht).kept (kp 4 t ht (Or.inl (by decide))),
      fun t ht => (h.k5 t ht).kept (kp 5 t ht (Or.inl (by decide))),
      fun t ht => (h.lp t ht).kept (kp _ _ (lv_lp ht (Nat.lt_of_lt_of_le ht hF)) (Or.inl (by decide))) (kp _ _ (lv_ep ht (Nat.lt_of_lt_of_le ht hF)) (Or.inl (by decide))),
      fun t k ht hk => (h.k6 t k ht hk).kept (kp _ _ (lv_6 ht hk (hN 8 t)) (Or.inl (by decide))),
      fun b hb => (h.k7 b hb).kept (kp 7 b hb (Or.inl (by decide))),
      fun w hw => (h.k8 w hw).kept (kp 8 w hw (Or.inl (by decide))),
      fun w hw => (h.lg w hw).kept (kp _ _ (lv_lg hw) (Or.inl (by decide))) (kp _ _ (lv_eg hw) (Or.inl (by decide))),
      fun w i hw hi => (h.k9 w i hw hi).kept (kp _ _ (lv_9 hw hi (hN 24 w)) (Or.inl (by decide)))⟩, ⟨h.2.1, h.2.2.1, fun q hq => h.2.2.2 q (by omega)⟩⟩
theorem CW.toE1 {e e' : Nat → Int} (h : CW D cA A sa ad F N Z (va_up E 1 e) H) (hF : F 3 ≤ 16) (hN : NB N) (he : ∀ j, j < 40 → e j = e' j) : CW D cA A sa ad F N Z (va_up E 1 e') H :=
  h.setE1 hF hN (arr_to h.c1 (fun j hj => by show iI (e j) = iI (e' j); rw [he j hj])) (fun _ _ => rfl) rfl
theorem CW.setE2 {e e' : Nat → Int} (h : CW D cA A sa ad F N Z (va_up E 2 e) H) (hF : F 3 ≤ 16) (hN : NB N) (hP : va_at D CL (ad 0 2, eI cA 40 e') H1) (oq : ∀ q, q ≠ ad 0 2 → H1[q]? = H[q]?) (hz : H1.size = H.size) : CW D cA A sa ad F N Z (va_up E 2 e') H1 := by
  have kp := h.but (k0 := 0) (i0 := 2) (by show 2 < 3; omega) oq
  exact ⟨⟨h.c0.kept (kp 0 0 (by show 0 < 3; omega) (Or.inr (by decide))),
      h.c1.kept (kp 0 1 (by show 1 < 3; omega) (Or.inr (by decide))),
      hP,
      h.l0.kept (kp _ _ (lv_l0 0 (by omega)) (Or.inl (by decide))) (kp _ _ (lv_e0 0 (by omega)) (Or.inl (by decide))),
      h.l1.kept (kp _ _ (lv_l0 1 (by omega)) (Or.inl (by decide))) (kp _ _ (lv_e0 1 (by omega)) (Or.inl (by decide))),
      h.l2.kept (kp _ _ (lv_l0 2 (by omega)) (Or.inl (by decide))) (kp _ _ (lv_e0 2 (by omega)) (Or.inl (by decide))),
      h.l3.kept (kp _ _ (lv_l0 3 (by omega)) (Or.inl (by decide))) (kp _ _ (lv_e0 3 (by omega)) (Or.inl (by decide))),
      fun j hj => (h.k3 j hj).kept (kp 3 j hj (Or.inl (by decide))),
      fun t ht => (h.k4 t ht).kept (kp 4 t ht (Or.inl (by decide))),
      fun t ht => (h.k5 t ht).kept (kp 5 t ht (Or.inl (by decide))),
      fun t ht => (h.lp t ht).kept (kp _ _ (lv_lp ht (Nat.lt_of_lt_of_le ht hF)) (Or.inl (by decide))) (kp _ _ (lv_ep ht (Nat.lt_of_lt_of_le ht hF)) (Or.inl (by decide))),
      fun t k ht hk => (h.k6 t k ht hk).kept (kp _ _ (lv_6 ht hk (hN 8 t)) (Or.inl (by decide))),
      fun b hb => (h.k7 b hb).kept (kp 7 b hb (Or.inl (by decide))),
      fun w hw => (h.k8 w hw).kept (kp 8 w hw (Or.inl (by decide))),
      fun w hw => (h.lg w hw).kept (kp _ _ (lv_lg hw) (Or.inl (by decide))) (kp _ _ (lv_eg hw) (Or.inl (by decide))),
      fun w i hw hi => (h.k9 w i hw hi).kept (kp _ _ (lv_9 hw hi (hN 24 w)) (Or.inl (by decide)))⟩, ⟨h.2.1, h.2.2.1, fun q hq => h.2.2.2 q (by omega)⟩⟩
theorem CW.toE2 {e e' : Nat → Int} (h : CW D cA A sa ad F N Z (va_up E 2 e) H) (hF : F 3 ≤ 16) (hN : NB N) (he : ∀ j, j < 40 → e j = e' j) : CW D cA A sa ad F N Z (va_up E 2 e') H :=
  h.setE2 hF hN (arr_to h.c2 (fun j hj => by show iI (e j) = iI (e' j); rw [he j hj])) (fun _ _ => rfl) rfl
theorem CW.setNow {v : Nat} (h : CW D cA A sa ad F N Z E H) (hF : F 3 ≤ 16) (hN : NB N) (hP : va_at D CL (ad 0 0, eX ad v) H1) (oq : ∀ q, q ≠ ad 0 0 → H1[q]? = H[q]?) (hz : H1.size = H.size) : CW D cA A sa ad (va_up F 1 v) N Z E H1 := by
  have kp := h.but (k0 := 0) (i0 := 0) (by show 0 < 3; omega) oq
  exact ⟨⟨hP,
      h.c1.kept (kp 0 1 (by show 1 < 3; omega) (Or.inr (by decide))),
      h.c2.kept (kp 0 2 (by show 2 < 3; omega) (Or.inr (by decide))),
      h.l0.kept (kp _ _ (lv_l0 0 (by omega)) (Or.inl (by decide))) (kp _ _ (lv_e0 0 (by omega)) (Or.inl (by decide))),
      h.l1.kept (kp _ _ (lv_l0 1 (by omega)) (Or.inl (by decide))) (kp _ _ (lv_e0 1 (by omega)) (Or.inl (by decide))),
      h.l2.kept (kp _ _ (lv_l0 2 (by omega)) (Or.inl (by decide))) (kp _ _ (lv_e0 2 (by omega)) (Or.inl (by decide))),
      h.l3.kept (kp _ _ (lv_l0 3 (by omega)) (Or.inl (by decide))) (kp _ _ (lv_e0 3 (by omega)) (Or.inl (by decide))),
      fun j hj => (h.k3 j hj).kept (kp 3 j hj (Or.inl (by decide))),
      fun t ht => (h.k4 t ht).kept (kp 4 t ht (Or.inl (by decide))),
      fun t ht => (h.k5 t ht).kept (kp 5 t ht (Or.inl (by decide))),
      fun t ht => (h.lp t ht).kept (kp _ _ (lv_lp ht (Nat.lt_of_lt_of_le ht hF)) (Or.inl (by decide))) (kp _ _ (lv_ep ht (Nat.lt_of_lt_of_le ht hF)) (Or.inl (by decide))),
      fun t k ht hk => (h.k6 t k ht hk).kept (kp _ _ (lv_6 ht hk (hN 8 t)) (Or.inl (by decide))),
      fun b hb => (h.k7 b hb).kept (kp 7 b hb (Or.inl (by decide))),
      fun w hw => (h.k8 w hw).kept (kp 8 w hw (Or.inl (by decide))),
      fun w hw => (h.lg w hw).kept (kp _ _ (lv_lg hw) (Or.inl (by decide))) (kp _ _ (lv_eg hw) (Or.inl (by decide))),
      fun w i hw hi => (h.k9 w i hw hi).kept (kp _ _ (lv_9 hw hi (hN 24 w)) (Or.inl (by decide)))⟩, ⟨by rw [Lv_eq rfl rfl rfl rfl rfl rfl]; exact h.2.1, by rw [Lv_eq rfl rfl rfl rfl rfl rfl]; exact h.2.2.1, fun q hq => h.2.2.2 q (by omega)⟩⟩
theorem CW.setZ {t k : Nat} {v : Int} (h : CW D cA A sa ad F N Z E H) (hF : F 3 ≤ 16) (hN : NB N) (ht : t < F 3) (hk : k < 10) (hP : va_at D CL (ad 5 t, eI cA 10 (va_up (fun j => Z (10 * t + j)) k v)) H1) (oq : ∀ q, q ≠ ad 5 t → H1[q]? = H[q]?) (hz : H1.size = H.size) : CW D cA A sa ad F N (va_up Z (10 * t + k) v) E H1 := by
  have kp := h.but (k0 := 5) (i0 := t) ht oq
  exact ⟨⟨h.c0.kept (kp 0 0 (by show 0 < 3; omega) (Or.inl (by decide))),
      h.c1.kept (kp 0 1 (by show 1 < 3; omega) (Or.inl (by decide))),
      h.c2.kept (kp 0 2 (by show 2 < 3; omega) (Or.inl (by decide))),
      h.l0.kept (kp _ _ (lv_l0 0 (by omega)) (Or.inl (by decide))) (kp _ _ (lv_e0 0 (by omega)) (Or.inl (by decide))),
      h.l1.kept (kp _ _ (lv_l0 1 (by omega)) (Or.inl (by decide))) (kp _ _ (lv_e0 1 (by omega)) (Or.inl (by decide))),
      h.l2.kept (kp _ _ (lv_l0 2 (by omega)) (Or.inl (by decide))) (kp _ _ (lv_e0 2 (by omega)) (Or.inl (by decide))),
      h.l3.kept (kp _ _ (lv_l0 3 (by omega)) (Or.inl (by decide))) (kp _ _ (lv_e0 3 (by omega)) (Or.inl (by decide))),
      fun j hj => (h.k3 j hj).kept (kp 3 j hj (Or.inl (by decide))),
      fun t ht => (h.k4 t ht).kept (kp 4 t ht (Or.inl (by decide))),
      fun x hx => by
        by_cases e : x = t
        · subst e
          refine arr_to hP (fun j hj => ?_)
          show iI (va_up (fun j => Z (10 * x + j)) k v j) = iI (va_up Z (10 * x + k) v (10 * x + j))
          unfold va_up
          by_cases e : j = k
          · rw [if_pos e, if_pos (by omega)]
          · rw [if_neg e, if_neg (by omega)]
        · refine arr_to ((h.k5 x hx).kept (kp 5 x hx (Or.inr e))) (fun j hj => ?_)
          show iI (Z (10 * x + j)) = iI (va_up Z (10 * t + k) v (10 * x + j))
          unfold va_up
          rw [if_neg (by omega)],
      fun t ht => (h.lp t ht).kept (kp _ _ (lv_lp ht (Nat.lt_of_lt_of_le ht hF)) (Or.inl (by decide))) (kp _ _ (lv_ep ht (Nat.lt_of_lt_of_le ht hF)) (Or.inl (by decide))),
      fun t k ht hk => (h.k6 t k ht hk).kept (kp _ _ (lv_6 ht hk (hN 8 t)) (Or.inl (by decide))),
      fun b hb => (h.k7 b hb).kept (kp 7 b hb (Or.inl (by decide))),
      fun w hw => (h.k8 w hw).kept (kp 8 w hw (Or.inl (by decide))),
      fun w hw => (h.lg w hw).kept (kp _ _ (lv_lg hw) (Or.inl (by decide))) (kp _ _ (lv_eg hw) (Or.inl (by decide))),
      fun w i hw hi => (h.k9 w i hw hi).kept (kp _ _ (lv_9 hw hi (hN 24 w)) (Or.inl (by decide)))⟩, ⟨h.2.1, h.2.2.1, fun q hq => h.2.2.2 q (by omega)⟩⟩
theorem CW.setT13 {t v : Nat} (h : CW D cA A sa ad F N Z E H) (hF : F 3 ≤ 16) (hN : NB N) (ht : t < F 3) (hP : va_at D CL (ad 4 t, eT ad (up2 N 13 t v) t) H1) (oq : ∀ q, q ≠ ad 4 t → H1[q]? = H[q]?) (hz : H1.size = H.size) : CW D cA A sa ad F (up2 N 13 t v) Z E H1 := by
  have kp := h.but (k0 := 4) (i0 := t) ht oq
  exact ⟨⟨h.c0.kept (kp 0 0 (by show 0 < 3; omega) (Or.inl (by decide))),
      h.c1.kept (kp 0 1 (by show 1 < 3; omega) (Or.inl (by decide))),
      h.c2.kept (kp 0 2 (by show 2 < 3; omega) (Or.inl (by decide))),
      h.l0.kept (kp _ _ (lv_l0 0 (by omega)) (Or.inl (by decide))) (kp _ _ (lv_e0 0 (by omega)) (Or.inl (by decide))),
      h.l1.kept (kp _ _ (lv_l0 1 (by omega)) (Or.inl (by decide))) (kp _ _ (lv_e0 1 (by omega)) (Or.inl (by decide))),
      h.l2.kept (kp _ _ (lv_l0 2 (by omega)) (Or.inl (by decide))) (kp _ _ (lv_e0 2 (by omega)) (Or.inl (by decide))),
      h.l3.kept (kp _ _ (lv_l0 3 (by omega)) (Or.inl (by decide))) (kp _ _ (lv_e0 3 (by omega)) (Or.inl (by decide))),
      fun j hj => (h.k3 j hj).kept (kp 3 j hj (Or.inl (by decide))),
      fun x hx => by
        by_cases e : x = t
        · subst e
          exact hP
        · have q := (h.k4 x hx).kept (kp 4 x hx (Or.inr e))
          have e2 : eT ad (up2 N 13 t v) x = eT ad N x := by
            simp only [eT, up2, e, and_false, if_false, Nat.reduceEqDiff, false_and, if_false]
          rw [e2]
          exact q,
      fun t ht => (h.k5 t ht).kept (kp 5 t ht (Or.inl (by decide))),
      fun t ht => (h.lp t ht).kept (kp _ _ (lv_lp ht (Nat.lt_of_lt_of_le ht hF)) (Or.inl (by decide))) (kp _ _ (lv_ep ht (Nat.lt_of_lt_of_le ht hF)) (Or.inl (by decide))),
      fun t k ht hk => (h.k6 t k ht hk).kept (kp _ _ (lv_6 ht hk (hN 8 t)) (Or.inl (by decide))),
      fun b hb => (h.k7 b hb).kept (kp 7 b hb (Or.inl (by decide))),
      fun w hw => (h.k8 w hw).kept (kp 8 w hw (Or.inl (by decide))),
      fun w hw => (h.lg w hw).kept (kp _ _ (lv_lg hw) (Or.inl (by decide))) (kp _ _ (lv_eg hw) (Or.inl (by decide))),
      fun w i hw hi => (h.k9 w i hw hi).kept (kp _ _ (lv_9 hw hi (hN 24 w)) (Or.inl (by decide)))⟩, ⟨by rw [Lv_eq rfl rfl rfl (up2_row (by decide)) (up2_row (by decide)) (up2_row (by decide))]; exact h.2.1, by rw [Lv_eq rfl rfl rfl (up2_row (by decide)) (up2_row (by decide)) (up2_row (by decide))]; exact h.2.2.1, fun q hq => h.2.2.2 q (by omega)⟩⟩
theorem CW.setT23 {t v : Nat} (h : CW D cA A sa ad F N Z E H) (hF : F 3 ≤ 16) (hN : NB N) (ht : t < F 3) (hP : va_at D CL (ad 4 t, eT ad (up2 N 23 t v) t) H1) (oq : ∀ q, q ≠ ad 4 t → H1[q]? = H[q]?) (hz : H1.size = H.size) : CW D cA A sa ad F (up2 N 23 t v) Z E H1 := by
  have kp := h.but (k0 := 4) (i0 := t) ht oq
  exact ⟨⟨h.c0.kept (kp 0 0 (by show 0 < 3; omega) (Or.inl (by decide))),
      h.c1.kept (kp 0 1 (by show 1 < 3; omega) (Or.inl (by decide))),
      h.c2.kept (kp 0 2 (by show 2 < 3; omega) (Or.inl (by decide))),
      h.l0.kept (kp _ _ (lv_l0 0 (by omega)) (Or.inl (by decide))) (kp _ _ (lv_e0 0 (by omega)) (Or.inl (by decide))),
      h.l1.kept (kp _ _ (lv_l0 1 (by omega)) (Or.inl (by decide))) (kp _ _ (lv_e0 1 (by omega)) (Or.inl (by decide))),
      h.l2.kept (kp _ _ (lv_l0 2 (by omega)) (Or.inl (by decide))) (kp _ _ (lv_e0 2 (by omega)) (Or.inl (by decide))),
      h.l3.kept (kp _ _ (lv_l0 3 (by omega)) (Or.inl (by decide))) (kp _ _ (lv_e0 3 (by omega)) (Or.inl (by decide))),
      fun j hj => (h.k3 j hj).kept (kp 3 j hj (Or.inl (by decide))),
      fun x hx => by
        by_cases e : x = t
        · subst e
          exact hP
        · have q := (h.k4 x hx).kept (kp 4 x hx (Or.inr e))
          have e2 : eT ad (up2 N 23 t v) x = eT ad N x := by
            simp only [eT, up2, e, and_false, if_false, Nat.reduceEqDiff, false_and, if_false]
          rw [e2]
          exact q,
      fun t ht => (h.k5 t ht).kept (kp 5 t ht (Or.inl (by decide))),
      fun t ht => (h.lp t ht).kept (kp _ _ (lv_lp ht (Nat.lt_of_lt_of_le ht hF)) (Or.inl (by decide))) (kp _ _ (lv_ep ht (Nat.lt_of_lt_of_le ht hF)) (Or.inl (by decide))),
      fun t k ht hk => (h.k6 t k ht hk).kept (kp _ _ (lv_6 ht hk (hN 8 t)) (Or.inl (by decide))),
      fun b hb => (h.k7 b hb).kept (kp 7 b hb (Or.inl (by decide))),
      fun w hw => (h.k8 w hw).kept (kp 8 w hw (Or.inl (by decide))),
      fun w hw => (h.lg w hw).kept (kp _ _ (lv_lg hw) (Or.inl (by decide))) (kp _ _ (lv_eg hw) (Or.inl (by decide))),
      fun w i hw hi => (h.k9 w i hw hi).kept (kp _ _ (lv_9 hw hi (hN 24 w)) (Or.inl (by decide)))⟩, ⟨by rw [Lv_eq rfl rfl rfl (up2_row (by decide)) (up2_row (by decide)) (up2_row (by decide))]; exact h.2.1, by rw [Lv_eq rfl rfl rfl (up2_row (by decide)) (up2_row (by decide)) (up2_row (by decide))]; exact h.2.2.1, fun q hq => h.2.2.2 q (by omega)⟩⟩
theorem CW.setW25 {w v : Nat} (h : CW D cA A sa ad F N Z E H) (hF : F 3 ≤ 16) (hN : NB N) (hw : TL F N w) (hP : va_at D CL (ad 8 w, eW ad sa (up2 N 25 w v) w) H1) (oq : ∀ q, q ≠ ad 8 w → H1[q]? = H[q]?) (hz : H1.size = H.size) : CW D cA A sa ad F (up2 N 25 w v) Z E H1 := by
  have kp := h.but (k0 := 8) (i0 := w) hw oq
  exact ⟨⟨h.c0.kept (kp 0 0 (by show 0 < 3; omega) (Or.inl (by decide))),
      h.c1.kept (kp 0 1 (by show 1 < 3; omega) (Or.inl (by decide))),
      h.c2.kept (kp 0 2 (by show 2 < 3; omega) (Or.inl (by decide))),
      h.l0.kept (kp _ _ (lv_l0 0 (by omega)) (Or.inl (by decide))) (kp _ _ (lv_e0 0 (by omega)) (Or.inl (by decide))),
      h.l1.kept (kp _ _ (lv_l0 1 (by omega)) (Or.inl (by decide))) (kp _ _ (lv_e0 1 (by omega)) (Or.inl (by decide))),
      h.l2.kept (kp _ _ (lv_l0 2 (by omega)) (Or.inl (by decide))) (kp _ _ (lv_e0 2 (by omega)) (Or.inl (by decide))),
      h.l3.kept (kp _ _ (lv_l0 3 (by omega)) (Or.inl (by decide))) (kp _ _ (lv_e0 3 (by omega)) (Or.inl (by decide))),
      fun j hj => (h.k3 j hj).kept (kp 3 j hj (Or.inl (by decide))),
      fun t ht => (h.k4 t ht).kept (kp 4 t ht (Or.inl (by decide))),
      fun t ht => (h.k5 t ht).kept (kp 5 t ht (Or.inl (by decide))),
      fun t ht => (h.lp t ht).kept (kp _ _ (lv_lp ht (Nat.lt_of_lt_of_le ht hF)) (Or.inl (by decide))) (kp _ _ (lv_ep ht (Nat.lt_of_lt_of_le ht hF)) (Or.inl (by decide))),
      fun t k ht hk => (h.k6 t k ht hk).kept (kp _ _ (lv_6 ht hk (hN 8 t)) (Or.inl (by decide))),
      fun b hb => (h.k7 b hb).kept (kp 7 b hb (Or.inl (by decide))),
      fun x hx => by
        by_cases e : x = w
        · subst e
          exact hP
        · have q := (h.k8 x hx).kept (kp 8 x hx (Or.inr e))
          have e3 : N 25 x = up2 N 25 w v 25 x := (up2_ne (Or.inr e)).symm
          rw [eW, e3] at q
          exact q,
      fun w hw => (h.lg w hw).kept (kp _ _ (lv_lg hw) (Or.inl (by decide))) (kp _ _ (lv_eg hw) (Or.inl (by decide))),
      fun w i hw hi => (h.k9 w i hw hi).kept (kp _ _ (lv_9 hw hi (hN 24 w)) (Or.inl (by decide)))⟩, ⟨by rw [Lv_eq rfl rfl rfl (up2_row (by decide)) (up2_row (by decide)) (up2_row (by decide))]; exact h.2.1, by rw [Lv_eq rfl rfl rfl (up2_row (by decide)) (up2_row (by decide)) (up2_row (by decide))]; exact h.2.2.1, fun q hq => h.2.2.2 q (by omega)⟩⟩
theorem CW.setW26 {w v : Nat} (h : CW D cA A sa ad F N Z E H) (hF : F 3 ≤ 16) (hN : NB N) (hw : TL F N w) (hP : va_at D CL (ad 8 w, eW ad sa (up2 N 26 w v) w) H1) (oq : ∀ q, q ≠ ad 8 w → H1[q]? = H[q]?) (hz : H1.size = H.size) : CW D cA A sa ad F (up2 N 26 w v) Z E H1 := by
  have kp := h.but (k0 := 8) (i0 := w) hw oq
  exact ⟨⟨h.c0.kept (kp 0 0 (by show 0 < 3; omega) (Or.inl (by decide))),
      h.c1.kept (kp 0 1 (by show 1 < 3; omega) (Or.inl (by decide))),
      h.c2.kept (kp 0 2 (by show 2 < 3; omega) (Or.inl (by decide))),
      h.l0.kept (kp _ _ (lv_l0 0 (by omega)) (Or.inl (by decide))) (kp _ _ (lv_e0 0 (by omega)) (Or.inl (by decide))),
      h.l1.kept (kp _ _ (lv_l0 1 (by omega)) (Or.inl (by decide))) (kp _ _ (lv_e0 1 (by omega)) (Or.inl (by decide))),
      h.l2.kept (kp _ _ (lv_l0 2 (by omega)) (Or.inl (by decide))) (kp _ _ (lv_e0 2 (by omega)) (Or.inl (by decide))),
      h.l3.kept (kp _ _ (lv_l0 3 (by omega)) (Or.inl (by decide))) (kp _ _ (lv_e0 3 (by omega)) (Or.inl (by decide))),
      fun j hj => (h.k3 j hj).kept (kp 3 j hj (Or.inl (by decide))),
      fun t ht => (h.k4 t ht).kept (kp 4 t ht (Or.inl (by decide))),
      fun t ht => (h.k5 t ht).kept (kp 5 t ht (Or.inl (by decide))),
      fun t ht => (h.lp t ht).kept (kp _ _ (lv_lp ht (Nat.lt_of_lt_of_le ht hF)) (Or.inl (by decide))) (kp _ _ (lv_ep ht (Nat.lt_of_lt_of_le ht hF)) (Or.inl (by decide))),
      fun t k ht hk => (h.k6 t k ht hk).kept (kp _ _ (lv_6 ht hk (hN 8 t)) (Or.inl (by decide))),
      fun b hb => (h.k7 b hb).kept (kp 7 b hb (Or.inl (by decide))),
      fun x hx => by
        by_cases e : x = w
        · subst e
          exact hP
        · have q := (h.k8 x hx).kept (kp 8 x hx (Or.inr e))
          have e3 : N 26 x = up2 N 26 w v 26 x := (up2_ne (Or.inr e)).symm
          rw [eW, e3] at q
          exact q,
      fun w hw => (h.lg w hw).kept (kp _ _ (lv_lg hw) (Or.inl (by decide))) (kp _ _ (lv_eg hw) (Or.inl (by decide))),
      fun w i hw hi => (h.k9 w i hw hi).kept (kp _ _ (lv_9 hw hi (hN 24 w)) (Or.inl (by decide)))⟩, ⟨by rw [Lv_eq rfl rfl rfl (up2_row (by decide)) (up2_row (by decide)) (up2_row (by decide))]; exact h.2.1, by rw [Lv_eq rfl rfl rfl (up2_row (by decide)) (up2_row (by decide)) (up2_row (by decide))]; exact h.2.2.1, fun q hq => h.2.2.2 q (by omega)⟩⟩
end CP
section CR
variable {p : Program} {l : Launch} {e : Env} {R : Room} {s : State} {m : MethodId} {args : Array Value} {below : List Frame} {meth : Method} {c : Code} {H : Heap} {locs : List Loc} {cells slots : Nat} {Q : State → Prop} {cc : ByteArray} {pc : Nat} {ls : Array Slot} {rest : List Value} {D : va_G} {cA : Nat → ClassId} {A : Nat → Prop} {sa : Nat → Nat} {ad : Nat → Nat → Nat} {F : Nat → Nat} {N : Nat → Nat → Nat} {Z : Nat → Int} {E : Nat → Nat → Int} {H0 : Heap}
theorem c_stE1 (hx : p.tables.exec = Jvm.exec) (hb : c.code = cc) (hK : Kx D cA s) {x : Nat → Int} (hW : CW D cA A sa ad F N Z (va_up E 1 x) H) (hF : F 3 ≤ 16) (hN : NB N) (hS : va_S A H0 H locs) {z v : Int} (j : Nat) (hz : z = (j : Int)) (hj : j < 40) (hdg : decode cc pc = .ok (.iastore, 1))
    (kk : ∀ (H1 : Heap) (locs1 : List Loc), CW D cA A sa ad F N Z (va_up E 1 (va_up x j v)) H1 → va_S A H0 H1 locs1 → W p l e R s m args below meth c H1 locs1 cells slots Q (F0 m (pc + 1) ls rest)) : W p l e R s m args below meth c H locs cells slots Q (F0 m pc ls (.int (iI v) :: .int (iI z) :: .ref (ad 0 1) :: rest)) :=
  h_iast (g := x) hx hb hK hW.c1 hS (hW.hA 0 1 (by show 1 < 3; omega)) j hz hj (by decide) hdg (fun H1 locs1 h1 oq z1 hS1 => kk H1 locs1 (hW.setE1 hF hN h1 oq z1) hS1)
theorem c_stE2 (hx : p.tables.exec = Jvm.exec) (hb : c.code = cc) (hK : Kx D cA s) {x : Nat → Int} (hW : CW D cA A sa ad F N Z (va_up E 2 x) H) (hF : F 3 ≤ 16) (hN : NB N) (hS : va_S A H0 H locs) {z v : Int} (j : Nat) (hz : z = (j : Int)) (hj : j < 40) (hdg : decode cc pc = .ok (.iastore, 1))
    (kk : ∀ (H1 : Heap) (locs1 : List Loc), CW D cA A sa ad F N Z (va_up E 2 (va_up x j v)) H1 → va_S A H0 H1 locs1 → W p l e R s m args below meth c H1 locs1 cells slots Q (F0 m (pc + 1) ls rest)) : W p l e R s m args below meth c H locs cells slots Q (F0 m pc ls (.int (iI v) :: .int (iI z) :: .ref (ad 0 2) :: rest)) :=
  h_iast (g := x) hx hb hK hW.c2 hS (hW.hA 0 2 (by show 2 < 3; omega)) j hz hj (by decide) hdg (fun H1 locs1 h1 oq z1 hS1 => kk H1 locs1 (hW.setE2 hF hN h1 oq z1) hS1)
theorem c_stZ (hx : p.tables.exec = Jvm.exec) (hb : c.code = cc) (hK : Kx D cA s) (hW : CW D cA A sa ad F N Z E H) (hF : F 3 ≤ 16) (hN : NB N) (hS : va_S A H0 H locs) {z v : Int} {t : Nat} (ht : t < F 3) (j : Nat) (hz : z = (j : Int)) (hj : j < 10) (hdg : decode cc pc = .ok (.iastore, 1))
    (kk : ∀ (H1 : Heap) (locs1 : List Loc), CW D cA A sa ad F N (va_up Z (10 * t + j) v) E H1 → va_S A H0 H1 locs1 → W p l e R s m args below meth c H1 locs1 cells slots Q (F0 m (pc + 1) ls rest)) : W p l e R s m args below meth c H locs cells slots Q (F0 m pc ls (.int (iI v) :: .int (iI z) :: .ref (ad 5 t) :: rest)) :=
  h_iast (g := fun j => Z (10 * t + j)) hx hb hK (hW.k5 t ht) hS (hW.hA 5 t ht) j hz hj (by decide) hdg (fun H1 locs1 h1 oq z1 hS1 => kk H1 locs1 (hW.setZ hF hN ht hj h1 oq z1) hS1)
end CR
