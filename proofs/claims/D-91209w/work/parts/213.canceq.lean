set_option maxRecDepth 100000
/-! cancel: both sides go the same way -/
theorem fOnR_us {N : Nat → Nat → Nat} {w t : Nat} : ∀ (r i : Nat), (anyB (fun j => decide (N 27 (3 * w + (i + j)) = t)) r = true → fOnR N w t r i = ((i + lst (fun j => decide (N 27 (3 * w + (i + j)) = t)) r : Nat) : Int)) ∧ (anyB (fun j => decide (N 27 (3 * w + (i + j)) = t)) r = false → fOnR N w t r i = -1)
  | 0, i => ⟨fun h => by simp [anyB] at h, fun _ => rfl⟩
  | r + 1, i => by
    have ih := fOnR_us (N := N) (w := w) (t := t) r (i + 1)
    have e : (fun j => decide (N 27 (3 * w + (i + 1 + j)) = t)) = (fun j => decide (N 27 (3 * w + (i + (j + 1))) = t)) := by
      funext j
      rw [show i + 1 + j = i + (j + 1) by omega]
    rw [e] at ih
    unfold fOnR
    by_cases h0 : N 27 (3 * w + i) = t
    · rw [if_pos h0]
      refine ⟨fun _ => ?_, fun h => ?_⟩
      · unfold lst
        rw [if_pos (by rw [Nat.add_zero]; exact decide_eq_true h0)]
        rfl
      · have : anyB (fun j => decide (N 27 (3 * w + (i + j)) = t)) (r + 1) = true := (anyB_iff _ _).mpr ⟨0, by omega, by rw [Nat.add_zero]; exact decide_eq_true h0⟩
        rw [this] at h
        cases h
    · rw [if_neg h0]
      have hany : anyB (fun j => decide (N 27 (3 * w + (i + (j + 1))) = t)) r = anyB (fun j => decide (N 27 (3 * w + (i + j)) = t)) (r + 1) := by
        rw [Bool.eq_iff_iff, anyB_iff, anyB_iff]
        constructor
        · rintro ⟨k, k1, k2⟩
          exact ⟨k + 1, by omega, k2⟩
        · rintro ⟨k, k1, k2⟩
          cases k with
          | zero => rw [Nat.add_zero] at k2; exact absurd (of_decide_eq_true k2) h0
          | succ k => exact ⟨k, by omega, k2⟩
      rw [← hany]
      refine ⟨fun h => ?_, fun h => ih.2 h⟩
      rw [ih.1 h]
      have el : lst (fun j => decide (N 27 (3 * w + (i + j)) = t)) (r + 1) = lst (fun j => decide (N 27 (3 * w + (i + (j + 1))) = t)) r + 1 := by
        conv => lhs; unfold lst
        rw [if_neg (by rw [Nat.add_zero]; exact fun q => h0 (of_decide_eq_true q))]
      rw [el]
      omega
theorem fOn_yes {N : Nat → Nat → Nat} {w t : Nat} (h : usB N w t = true) : fOn N w t = (foC N w t : Nat) := by
  have := (fOnR_us (N := N) (w := w) (t := t) (N 24 w) 0).1
  simp only [Nat.zero_add] at this
  exact this h
theorem fOn_no {N : Nat → Nat → Nat} {w t : Nat} (h : ¬ usB N w t = true) : fOn N w t = -1 := by
  have := (fOnR_us (N := N) (w := w) (t := t) (N 24 w) 0).2
  simp only [Nat.zero_add] at this
  exact this (Bool.eq_false_iff.mpr h)
theorem fOn_lk {M C : Nat → Nat → Nat} (h : Lk M C) (w t : Nat) : fOn M w t = fOn C w t := by
  unfold fOn
  rw [h 24 (by decide) (by decide) (by decide)]
  have : ∀ r i, fOnR M w t r i = fOnR C w t r i := by
    intro r
    induction r with
    | zero => intro i; rfl
    | succ r ih => intro i; unfold fOnR; rw [ih, h 27 (by decide) (by decide) (by decide)]
  exact this _ _
/-- legs given up, on both sides -/
theorem give_rel {P : Nat → Prop} {F : Nat → Nat} {M C : Nat → Nat → Nat} {Z : Nat → Int} {w t : Nat} (h : RelP P F M C Z) (hF : FB F) (hw : TL F C w) (hp : ¬ P w) (hu : usB C w t = true) :
    RelP (fun x => P x ∨ x = w) F (up2 (up2 M 24 w (foC C w t)) 23 w 0) (up2 C 24 w (foC C w t)) (ldZ C w (-1) (foC C w t) (C 24 w - foC C w t) Z) := by
  obtain ⟨hI, hU, hL, hS, hP, hZ⟩ := h
  obtain ⟨f1, f2, f3⟩ := foC_spec hu
  have hst := hS w (tl_lt hw) hp
  refine ⟨hI.pop (TL_lt hF hw) (by omega), ⟨hU.1, fun x i hi => hU.2 x i ?_⟩, (hL.up _ _ _).upM (Or.inr (Or.inl rfl)), fun x hx hnp => ?_, fun x hx => ?_, fun x hx => ?_⟩
  · by_cases e : x = w
    · subst e; rw [up2_eq] at hi; omega
    · rw [up2_ne (Or.inr e)] at hi; exact hi
  · have e : x ≠ w := fun e => hnp (Or.inr e)
    refine (hS x hx (fun q => hnp (Or.inl q))).to ⟨up2_ne (Or.inr e), fun i hi => ⟨rfl, rfl⟩, fun k hk => up2_row (by omega)⟩ rfl rfl rfl ?_ rfl
    rw [up2_ne (Or.inr e), up2_row (by decide)]
  · by_cases e : x = w
    · subst e
      refine ⟨hw, ?_, up2_eq _ _ _ _, ?_⟩
      · show M 22 x = 1
        rcases hst with s | s | s
        · omega
        · exact s.2.1
        · exact s.2.1
      · show C 25 x ≠ 0
        rcases hst with s | s | s <;> omega
    · rcases hx with hx | hx
      · obtain ⟨p1, p2, p3, p4⟩ := hP x hx
        exact ⟨p1, p2, by rw [up2_ne (Or.inr e), up2_row (by decide)]; exact p3, p4⟩
      · exact absurd hx e
  · have e : x ≠ w := fun e => by have := tl_lt hw; omega
    obtain ⟨a, b⟩ := hZ x hx
    exact ⟨a, by rw [up2_ne (Or.inr e), up2_row (by decide)]; exact b⟩
/-- a way that stands, on both sides -/
theorem stand_rel {P : Nat → Prop} {F : Nat → Nat} {M C : Nat → Nat → Nat} {Z : Nat → Int} {w v : Nat} (h : RelP P F M C Z) (hp : P w) (h1 : thW C w ≤ v) (h2 : v ≤ 2000) :
    RelP (fun x => P x ∧ x ≠ w) F (up2 (up2 M 25 w (enW C w + 1)) 26 w v) (up2 (up2 C 25 w 2) 26 w v) Z := by
  obtain ⟨hI, hU, hL, hS, hP, hZ⟩ := h
  obtain ⟨p1, p2, p3, p4⟩ := hP w hp
  obtain ⟨⟨i1, i2, i3, i4, i5, i6, i7⟩, i8⟩ := hI
  have hew : eqW C (up2 (up2 C 25 w 2) 26 w v) w := ⟨rfl, fun i _ => ⟨rfl, rfl⟩, fun k hk => by rw [up2_row (by omega), up2_row (by omega)]⟩
  refine ⟨⟨⟨i1.st (by omega), (i2.up (by show 2 ≤ 10; omega)).up (by show v ≤ 2000; omega), fun x hx => ?_, i4, i5, i6, i7⟩, ?_⟩, hU, ((hL.upM (Or.inr (Or.inr rfl))).upC (Or.inr (Or.inr rfl))).up _ _ _, fun x hx hnp => ?_, fun x hx => ?_, fun x hx => ?_⟩
  · have e : x ≠ w := fun e => hx (by rw [e]; exact p1)
    obtain ⟨a, b, c⟩ := i3 x hx
    exact ⟨a, by rw [up2_row (by decide), up2_ne (Or.inr e)]; exact b, by rw [up2_ne (Or.inr e), up2_row (by decide)]; exact c⟩
  · exact i8
  · by_cases e : x = w
    · subst e
      refine Or.inr (Or.inr ⟨?_, p2, p3, ?_, ?_⟩)
      · rw [up2_row (by decide), up2_eq]
      · rw [up2_row (by decide), up2_eq, hew.en]
      · rw [hew.th, up2_eq]; exact h1
    · refine (hS x hx (fun q => hnp ⟨q, e⟩)).to ⟨rfl, fun i _ => ⟨rfl, rfl⟩, fun k hk => by rw [up2_row (by omega), up2_row (by omega)]⟩ ?_ ?_ rfl rfl ?_
      · rw [up2_row (by decide), up2_ne (Or.inr e)]
      · rw [up2_ne (Or.inr e), up2_row (by decide)]
      · rw [up2_row (by decide), up2_ne (Or.inr e)]
  · obtain ⟨q1, q2, q3, q4⟩ := hP x hx.1
    exact ⟨q1, q2, q3, by rw [up2_row (by decide), up2_ne (Or.inr hx.2)]; exact q4⟩
  · exact hZ x hx
def gvN (g : Nat → Nat) (n : Nat) : Nat := cntB (fun b => decide (g b ≠ 0)) n
def Pg (g : Nat → Nat) (C : Nat → Nat → Nat) (lo hi w : Nat) : Prop := ∃ b, lo ≤ b ∧ b < hi ∧ g b ≠ 0 ∧ w = wayN C b
theorem way_inj {C : Nat → Nat → Nat} (hN : NB C) {a b : Nat} (h : wayN C a = wayN C b) : a = b := by
  have h1 : C 21 a ≤ 1 := hN 21 a
  have h2 : C 21 b ≤ 1 := hN 21 b
  unfold wayN at h
  omega
theorem RelP.cg {P P' : Nat → Prop} {F : Nat → Nat} {M C : Nat → Nat → Nat} {Z : Nat → Int} (h : RelP P F M C Z) (e : ∀ w, P' w ↔ P w) : RelP P' F M C Z :=
  ⟨h.1, h.2.1, h.2.2.1, fun x hx q => h.2.2.2.1 x hx (fun z => q ((e x).mpr z)), fun x hx => h.2.2.2.2.1 x ((e x).mp hx), h.2.2.2.2.2⟩
theorem gvN_lt {g g' : Nat → Nat} {n : Nat} (h : ∀ b, b < n → g' b = g b) : gvN g' n = gvN g n := cntB_eq n (fun i hi => by rw [h i hi])
theorem canc1 {F : Nat → Nat} {M C : Nat → Nat → Nat} {Z : Nat → Int} {t : Nat} (g : Nat → Nat) (h : Rel F M C Z) (hF : FB F) : ∀ n, n ≤ F 4 →
    (c1It t M Z g n).2.1 = (x1It t C Z n).2.1 ∧ (c1It t M Z g n).2.2.2 = (x1It t C Z n).2.2.length ∧ (x1It t C Z n).2.2.length = gvN (c1It t M Z g n).2.2.1 n ∧ (x1It t C Z n).1 21 = C 21 ∧
    (∀ b, b < n → (c1It t M Z g n).2.2.1 b ≠ 0 → (x1It t C Z n).2.2.getD (gvN (c1It t M Z g n).2.2.1 b) 0 = wayN C b) ∧ RelP (Pg (c1It t M Z g n).2.2.1 C 0 n) F (c1It t M Z g n).1 (x1It t C Z n).1 (x1It t C Z n).2.1
  | 0, _ => ⟨rfl, rfl, rfl, rfl, fun b hb => absurd hb (Nat.not_lt_zero _), h.cg (fun w => ⟨fun ⟨b, _, q, _⟩ => absurd q (Nat.not_lt_zero _), fun q => q.elim⟩)⟩
  | n + 1, hn => by
    obtain ⟨a1, a2, a3, a4, a5, a6⟩ := canc1 (t := t) g h hF n (by omega)
    show (c1Step t (c1It t M Z g n) n).2.1 = (x1Step t (x1It t C Z n) n).2.1 ∧ (c1Step t (c1It t M Z g n) n).2.2.2 = (x1Step t (x1It t C Z n) n).2.2.length ∧ (x1Step t (x1It t C Z n) n).2.2.length = gvN (c1Step t (c1It t M Z g n) n).2.2.1 (n + 1) ∧ (x1Step t (x1It t C Z n) n).1 21 = C 21 ∧
      (∀ b, b < n + 1 → (c1Step t (c1It t M Z g n) n).2.2.1 b ≠ 0 → (x1Step t (x1It t C Z n) n).2.2.getD (gvN (c1Step t (c1It t M Z g n) n).2.2.1 b) 0 = wayN C b) ∧ RelP (Pg (c1Step t (c1It t M Z g n) n).2.2.1 C 0 (n + 1)) F (c1Step t (c1It t M Z g n) n).1 (x1Step t (x1It t C Z n) n).1 (x1Step t (x1It t C Z n) n).2.1
    generalize c1It t M Z g n = p at *
    generalize x1It t C Z n = q at *
    obtain ⟨pM, pZ, pg, pk⟩ := p
    obtain ⟨qC, qZ, qL⟩ := q
    dsimp only at a1 a2 a3 a4 a5 a6
    subst a1; subst a2
    have hN := a6.1.1.2.1
    have hL := a6.2.2.1
    have hwq : ∀ b, wayN qC b = wayN C b := fun b => by unfold wayN; rw [a4]
    have hw1 := br_way hL n
    have hNC := h.1.1.2.1
    have hTL : TL F qC (wayN qC n) := tl_way hN (by omega)
    have hnp : ¬ Pg pg C 0 n (wayN qC n) := fun ⟨b, _, q1, _, q2⟩ => by
      rw [hwq] at q2
      have := way_inj hNC q2
      omega
    unfold c1Step x1Step
    dsimp only
    rw [hw1]
    by_cases hu : usB qC (wayN qC n) t = true
    · have hf : fOn pM (wayN qC n) t = (foC qC (wayN qC n) t : Nat) := by rw [fOn_lk hL, fOn_yes hu]
      rw [if_neg (by rw [hf]; omega), if_pos hu, hf, Int.toNat_natCast, hL 24 (by decide) (by decide) (by decide), ldZ_to (N' := pM) (N := qC) (hL 27 (by decide) (by decide) (by decide)) (hL 28 (by decide) (by decide) (by decide)) (hL 29 (by decide) (by decide) (by decide))]
      dsimp only
      have hg : ∀ b, b < n → va_up pg n 1 b = pg b := fun b hb => by unfold va_up; rw [if_neg (by omega)]
      have hgn : va_up pg n 1 n = 1 := by unfold va_up; rw [if_pos rfl]
      refine ⟨rfl, by rw [List.length_append]; rfl, ?_, ?_, fun b hb hb0 => ?_, ?_⟩
      · show _ = gvN (va_up pg n 1) n + (if decide (va_up pg n 1 n ≠ 0) = true then 1 else 0)
        rw [gvN_lt hg, hgn, List.length_append, a3]
        rfl
      · rw [up2_row (by decide)]; exact a4
      · by_cases e : b = n
        · subst e
          rw [gvN_lt hg, ← a3]
          simp [List.getD, hwq]
        · have hb' : b < n := by omega
          rw [hg b hb'] at hb0
          have hlt : gvN (va_up pg n 1) b = gvN pg b := gvN_lt (fun x hx => hg x (by omega))
          have h5 := a5 b hb' hb0
          have hle : gvN pg b < qL.length := by
            rw [a3]
            have h6 := cntB_add (fun x => decide (pg x ≠ 0)) b (n - b)
            rw [show b + (n - b) = n by omega] at h6
            have h7 := cntB_add (fun x => decide (pg (b + x) ≠ 0)) 1 (n - b - 1)
            rw [show 1 + (n - b - 1) = n - b by omega] at h7
            have h8 : cntB (fun x => decide (pg (b + x) ≠ 0)) 1 = 1 := by
              show 0 + (if decide (pg (b + 0) ≠ 0) = true then 1 else 0) = 1
              rw [Nat.add_zero, if_pos (decide_eq_true hb0)]
            show cntB _ b < cntB _ n
            omega
          rw [hlt, ← h5]
          simp only [List.getD]
          rw [List.getElem?_append_left hle]
      · refine (give_rel a6 hF hTL hnp hu).cg (fun w => ?_)
        constructor
        · rintro ⟨b, b1, b2, b3, b4⟩
          by_cases e : b = n
          · subst e
            exact Or.inr (by rw [b4, hwq])
          · exact Or.inl ⟨b, b1, by omega, by rw [hg b (by omega)] at b3; exact b3, b4⟩
        · rintro (⟨b, b1, b2, b3, b4⟩ | e)
          · exact ⟨b, b1, by omega, by rw [hg b b2]; exact b3, b4⟩
          · exact ⟨n, by omega, by omega, by rw [hgn]; decide, by rw [e, hwq]⟩
    · have hf : fOn pM (wayN qC n) t = -1 := by rw [fOn_lk hL, fOn_no hu]
      rw [if_pos hf, if_neg hu]
      dsimp only
      have hg : ∀ b, b < n → va_up pg n 0 b = pg b := fun b hb => by unfold va_up; rw [if_neg (by omega)]
      have hgn : va_up pg n 0 n = 0 := by unfold va_up; rw [if_pos rfl]
      refine ⟨rfl, rfl, ?_, a4, fun b hb hb0 => ?_, ?_⟩
      · show _ = gvN (va_up pg n 0) n + (if decide (va_up pg n 0 n ≠ 0) = true then 1 else 0)
        rw [gvN_lt hg, hgn, a3]
        rfl
      · by_cases e : b = n
        · subst e; exact absurd hgn hb0
        · have hb' : b < n := by omega
          rw [hg b hb'] at hb0
          rw [gvN_lt (fun x hx => hg x (by omega))]
          exact a5 b hb' hb0
      · refine a6.cg (fun w => ?_)
        constructor
        · rintro ⟨b, b1, b2, b3, b4⟩
          by_cases e : b = n
          · subst e; exact absurd hgn b3
          · exact ⟨b, b1, by omega, by rw [hg b (by omega)] at b3; exact b3, b4⟩
        · rintro ⟨b, b1, b2, b3, b4⟩
          exact ⟨b, b1, by omega, by rw [hg b b2]; exact b3, b4⟩
