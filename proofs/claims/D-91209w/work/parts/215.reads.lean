set_option maxRecDepth 100000
/-! what both sides tell is the same -/
theorem ite_iff {P Q : Prop} [Decidable P] [Decidable Q] (h : P ↔ Q) (a b : Int) : (if P then a else b) = (if Q then a else b) := by
  by_cases p : P
  · rw [if_pos p, if_pos (h.mp p)]
  · rw [if_neg p, if_neg (fun q => p (h.mpr q))]
theorem Rel.st {F : Nat → Nat} {M C : Nat → Nat → Nat} {Z : Nat → Int} (h : Rel F M C Z) {w : Nat} (hw : w < 2 * F 4) : St M C w := h.2.2.2.1 w hw (fun q => q)
theorem Rel.way {F : Nat → Nat} {M C : Nat → Nat → Nat} {Z : Nat → Int} (h : Rel F M C Z) {b : Nat} (hb : b < F 4) : St M C (wayN C b) := h.st (tl_lt (tl_way h.1.1.2.1 hb))
theorem rd_arr {F : Nat → Nat} {M C : Nat → Nat → Nat} {Z : Nat → Int} (h : Rel F M C Z) {b : Nat} (hb : b < F 4) : arrN M b = arW C (wayN C b) := by
  have hL := h.2.2.1
  have hN := h.1.1.2.1
  unfold arrN arW
  rw [br_way hL, br_th hL hN, br_wt hL hN]
  rcases h.way hb with s | s | s
  · rw [if_pos s.2.2.1, if_neg (by omega)]
  · rw [if_neg (by omega), if_pos s.1]
  · rw [if_pos s.2.2.1, if_neg (by omega)]
theorem rd_of {F : Nat → Nat} {M C : Nat → Nat → Nat} {Z : Nat → Int} (h : Rel F M C Z) {b : Nat} (hb : b < F 4) (v : Nat) : ofV F M b v = ofC F C b v := by
  have hL := h.2.2.1
  have hN := h.1.1.2.1
  unfold ofV ofC
  rw [rd_arr h hb, br_rd hL hN, br_way hL, br_du hL hN, hL 24 (by decide) (by decide) (by decide), hL 26 (by decide) (by decide) (by decide), hL 21 (by decide) (by decide) (by decide)]
  have h22 : M 22 (wayN C b) ≠ 0 ↔ C 25 (wayN C b) ≠ 0 := by rcases h.way hb with s | s | s <;> omega
  have hlate : ((duW C (wayN C b) : Int) < arW C (wayN C b)) ↔ (C 25 (wayN C b) = 1 ∧ (duW C (wayN C b) : Int) < arW C (wayN C b)) := by
    refine ⟨fun q => ⟨?_, q⟩, fun q => q.2⟩
    unfold arW at q
    split at q
    · assumption
    · omega
  rw [ite_iff (P := rdW C (wayN C b) ≤ F 1 ∧ M 22 (wayN C b) ≠ 0) (and_congr Iff.rfl h22), ite_iff hlate]
  have e4 : ((M 25 (wayN C b) : Int) - 1) = if C 25 (wayN C b) = 2 then (enW C (wayN C b) : Int) else -1 := by
    rcases h.way hb with s | s | s
    · rw [if_neg (by omega)]; omega
    · rw [if_neg (by omega)]; omega
    · rw [if_pos s.1]; omega
  have e5 : (if M 25 (wayN C b) = 0 then (-1 : Int) else (C 26 (wayN C b) : Int)) = if C 25 (wayN C b) = 2 then (C 26 (wayN C b) : Int) else -1 := by
    rcases h.way hb with s | s | s
    · rw [if_pos s.2.2.2.1, if_neg (by omega)]
    · rw [if_pos s.2.2.2, if_neg (by omega)]
    · rw [if_neg (by omega), if_pos s.1]
  rw [e4, e5]
theorem lst_congr {P P' : Nat → Bool} : ∀ n, (∀ i, i < n → P i = P' i) → lst P n = lst P' n
  | 0, _ => rfl
  | n + 1, h => by
    unfold lst
    rw [h 0 (by omega), lst_congr (P := fun i => P (i + 1)) (P' := fun i => P' (i + 1)) n (fun i hi => h (i + 1) (by omega))]
theorem anyB_congr {P P' : Nat → Bool} : ∀ n, (∀ i, i < n → P i = P' i) → anyB P n = anyB P' n
  | 0, _ => rfl
  | n + 1, h => by
    unfold anyB
    rw [h n (by omega), anyB_congr n (fun i hi => h i (by omega))]
theorem rd_alk {M C : Nat → Nat → Nat} (hL : Lk M C) (a b : Nat) : alk M a b = alk C a b := by
  unfold alk eqL
  rw [hL 24 (by decide) (by decide) (by decide), hL 27 (by decide) (by decide) (by decide), hL 28 (by decide) (by decide) (by decide), hL 29 (by decide) (by decide) (by decide)]
theorem rd_hs {F : Nat → Nat} {M C : Nat → Nat → Nat} {Z : Nat → Int} (h : Rel F M C Z) {a : Nat} (ha : a < F 4) : hsM M a = hsC C a := by
  unfold hsM hsC
  rw [decide_eq_decide]
  rcases h.st (w := 2 * a) (by omega) with s | s | s <;> omega
theorem rd_fl {F : Nat → Nat} {M C : Nat → Nat → Nat} {Z : Nat → Int} (h : Rel F M C Z) {b : Nat} (hb : b ≤ F 4) : flB (hsM M) M b = flB (hsC C) C b := lst_congr b (fun i hi => by rw [rd_hs h (by omega), rd_alk h.2.2.1])
theorem rd_mk {F : Nat → Nat} {M C : Nat → Nat → Nat} {Z : Nat → Int} (h : Rel F M C Z) {b : Nat} (hb : b < F 4) : mkB (hsM M) M b = mkB (hsC C) C b := by
  unfold mkB
  rw [rd_hs h hb, rd_fl h (by omega)]
theorem rd_cnt {F : Nat → Nat} {M C : Nat → Nat → Nat} {Z : Nat → Int} (h : Rel F M C Z) (v : Nat) : cntV F M v = cnC F C v := by
  have hL := h.2.2.1
  have hN := h.1.1.2.1
  unfold cntV cnC
  rw [cntB_eq (P := fun b => decide (M 23 (wayN M b) ≠ 0)) (P' := fun b => decide (C 25 (wayN C b) = 1)) (F 4) (fun b hb => by
    rw [br_way hL, decide_eq_decide]
    rcases h.way hb with s | s | s <;> omega),
    cntB_eq (P := ltB M) (P' := ltC C) (F 4) (fun b hb => by
      unfold ltB ltC
      rw [decide_eq_decide, br_du hL hN, rd_arr h hb]
      refine ⟨fun q => ⟨?_, q⟩, fun q => q.2⟩
      unfold arW at q
      split at q
      · assumption
      · omega),
    cntB_eq (P := mkB (hsM M) M) (P' := mkB (hsC C) C) (F 4) (fun b hb => rd_mk h hb)]
theorem rd_leg {M C : Nat → Nat → Nat} (hL : Lk M C) (b i v : Nat) : legW M b i v = legW C b i v := by
  unfold legW legI
  rw [hL 24 (by decide) (by decide) (by decide), hL 27 (by decide) (by decide) (by decide), hL 28 (by decide) (by decide) (by decide), hL 29 (by decide) (by decide) (by decide)]
theorem rd_legs {F : Nat → Nat} {M C : Nat → Nat → Nat} {Z : Nat → Int} (h : Rel F M C Z) (b : Nat) : M 24 (2 * b) + M 24 (2 * b + 1) = C 24 (2 * b) + (if C 21 b = 0 then 0 else C 24 (2 * b + 1)) := by
  rw [h.2.2.1 24 (by decide) (by decide) (by decide)]
  split
  · rename_i e
    have : ¬ TL F C (2 * b + 1) := fun q => by
      unfold TL at q
      rw [show (2 * b + 1) / 2 = b by omega] at q
      rcases q.2 with q | q
      · omega
      · exact q e
    rw [(h.1.1.2.2.1 _ this).1]
  · rfl
theorem rd_share {M C : Nat → Nat → Nat} (hL : Lk M C) (F : Nat → Nat) (c s : Nat) : shV F M c s = shV F C c s := by
  unfold shV shP dzN dsN
  rw [hL 12 (by decide) (by decide) (by decide)]
/-- where a box is -/
theorem wh_wlp {now : Nat} {on of : Nat → Nat} {z : Int} {n : Nat} (h1 : ∀ i, i < n → on i ≤ of i) (h2 : ∀ i, i + 1 < n → of i ≤ on (i + 1)) : ∀ (r i : Nat), i + r = n → (∀ j, j < i → of j ≤ now) →
    ((wlp now on of z r i = 2 ∧ anyB (fun j => decide (on j ≤ now ∧ now < of j)) n = true) ∨ (wlp now on of z r i = 1 ∧ anyB (fun j => decide (on j ≤ now ∧ now < of j)) n = false ∧ i < n ∧ now < of (n - 1)) ∨ (wlp now on of z r i = z ∧ anyB (fun j => decide (on j ≤ now ∧ now < of j)) n = false))
  | 0, i, hi, hj => by
    refine Or.inr (Or.inr ⟨rfl, anyB_no (fun j hjn => decide_eq_false (fun q => ?_))⟩)
    have := hj j (by omega)
    omega
  | r + 1, i, hi, hj => by
    have hmono : ∀ d, i + d < n → on i ≤ on (i + d) := by
      intro d
      induction d with
      | zero => intro _; exact Nat.le_refl _
      | succ d ih =>
        intro hd
        have a := ih (by omega)
        have b := h1 (i + d) (by omega)
        have c := h2 (i + d) (by omega)
        rw [show i + (d + 1) = i + d + 1 by omega]
        omega
    unfold wlp
    by_cases c1 : now < on i
    · rw [if_pos c1]
      refine Or.inr (Or.inl ⟨rfl, anyB_no (fun j hjn => decide_eq_false (fun q => ?_)), by omega, ?_⟩)
      · rcases Nat.lt_or_ge j i with l | l
        · have := hj j l; omega
        · have := hmono (j - i) (by omega)
          rw [show i + (j - i) = j by omega] at this
          omega
      · have a := hmono (n - 1 - i) (by omega)
        rw [show i + (n - 1 - i) = n - 1 by omega] at a
        have b := h1 (n - 1) (by omega)
        omega
    · rw [if_neg c1]
      by_cases c2 : now < of i
      · rw [if_pos c2]
        exact Or.inl ⟨rfl, anyB_ex (k := i) (by omega) (decide_eq_true ⟨by omega, c2⟩)⟩
      · rw [if_neg c2]
        refine (wh_wlp h1 h2 r (i + 1) (by omega) (fun j hj2 => ?_)).imp id (Or.imp (fun q => ⟨q.1, q.2.1, by omega, q.2.2.2⟩) id)
        rcases Nat.lt_or_ge j i with l | l
        · exact hj j l
        · rw [show j = i by omega]; omega
theorem rd_wh {F : Nat → Nat} {M C : Nat → Nat → Nat} {Z : Nat → Int} (h : Rel F M C Z) {b : Nat} (hb : b < F 4) : whM F M b = whC F C (wayN C b) := by
  have hL := h.2.2.1
  obtain ⟨⟨⟨i1, i2, i3, i4, i5, i6, i7⟩, i8⟩, -⟩ := id h
  have hTL := tl_way i2 hb
  have hst := h.way hb
  unfold whM whC
  have eo : onM M (wayN C b) = onM C (wayN C b) := by
    funext i
    unfold onM
    rw [hL 10 (by decide) (by decide) (by decide), hL 27 (by decide) (by decide) (by decide), hL 28 (by decide) (by decide) (by decide)]
  have ef : ofM M (wayN C b) = ofM C (wayN C b) := by
    funext i
    unfold ofM
    rw [hL 10 (by decide) (by decide) (by decide), hL 27 (by decide) (by decide) (by decide), hL 29 (by decide) (by decide) (by decide)]
  rw [br_rd hL i2, br_way hL, eo, ef, br_th hL i2, rd_arr h hb, hL 24 (by decide) (by decide) (by decide)]
  generalize hw : wayN C b = w at *
  have h22 : M 22 w ≠ 0 ↔ C 25 w ≠ 0 := by rcases hst with s | s | s <;> omega
  by_cases hg : rdW C w ≤ F 1 ∧ C 25 w ≠ 0
  · rw [if_pos ⟨hg.1, h22.mpr hg.2⟩, if_pos hg]
    have h23 : M 23 w = 0 ↔ C 25 w = 2 := by rcases hst with s | s | s <;> omega
    have hleg : ∀ i, i < C 24 w → onM C w i ≤ ofM C w i := fun i hi => by
      obtain ⟨a1, a2, a3⟩ := i1.2.2.1 w i hTL hi
      exact Nat.le_of_lt (i6 _ _ _ a1 a2 a3)
    have hch : ∀ i, i + 1 < C 24 w → ofM C w i ≤ onM C w (i + 1) := fun i hi => by
      have := i7 w i hi
      unfold legB behN at this
      unfold ofM
      omega
    rcases wh_wlp (now := F 1) (z := if M 23 w = 0 ∨ F 1 < thW C w then 1 else if (F 1 : Int) < arW C w then 3 else 4) hleg hch (C 24 w) 0 (by omega) (fun j hj => absurd hj (Nat.not_lt_zero _)) with ⟨a, b1⟩ | ⟨a, b1, c, d⟩ | ⟨a, b1⟩
    · rw [a, if_pos b1]
    · have ht : F 1 < thW C w := by
        unfold thW legB behN
        rw [if_neg (by omega)]
        unfold ofM at d
        omega
      rw [a, b1, if_neg Bool.false_ne_true, if_pos (Or.inr ht)]
    · rw [a, b1, if_neg Bool.false_ne_true, ite_iff (P := M 23 w = 0 ∨ F 1 < thW C w) (or_congr h23 Iff.rfl)]
  · rw [if_neg (fun q => hg ⟨q.1, h22.mp q.2⟩), if_neg hg]
/-- whether boxes are planned on a train -/
theorem cvS_pos {N : Nat → Nat → Nat} {x : Nat} : ∀ n, 0 < cvS N x n → ∃ w i, i < N 24 w ∧ cvP N w x i = true
  | 0, h => by unfold cvS at h; omega
  | n + 1, h => by
    unfold cvS at h
    by_cases c : 0 < cntB (cvP N n x) (N 24 n)
    · have : ∀ m, 0 < cntB (cvP N n x) m → ∃ i, i < m ∧ cvP N n x i = true := by
        intro m
        induction m with
        | zero => intro q; unfold cntB at q; omega
        | succ m ih =>
          intro q
          unfold cntB at q
          by_cases e : cvP N n x m = true
          · exact ⟨m, by omega, e⟩
          · rw [if_neg e] at q
            obtain ⟨i, a, b⟩ := ih (by omega)
            exact ⟨i, by omega, b⟩
      obtain ⟨i, a, b⟩ := this _ c
      exact ⟨n, i, a, b⟩
    · exact cvS_pos n (by omega)
theorem cvS_ge {N : Nat → Nat → Nat} (hN : NB N) {x w i : Nat} (hi : i < N 24 w) (hc : cvP N w x i = true) : ∀ n, w < n → 0 < cvS N x n
  | 0, h => absurd h (Nat.not_lt_zero _)
  | n + 1, h => by
    unfold cvS
    have h0 := (cvS_B hN x n).1
    by_cases e : n = w
    · subst e
      have h6 := cntB_add (cvP N n x) i (N 24 n - i)
      rw [show i + (N 24 n - i) = N 24 n by omega] at h6
      have h7 := cntB_add (fun j => cvP N n x (i + j)) 1 (N 24 n - i - 1)
      rw [show 1 + (N 24 n - i - 1) = N 24 n - i by omega] at h7
      have h8 : cntB (fun j => cvP N n x (i + j)) 1 = 1 := by
        show 0 + (if cvP N n x (i + 0) = true then 1 else 0) = 1
        rw [Nat.add_zero, if_pos hc]
      omega
    · have := cvS_ge hN hi hc n (by omega)
      omega
theorem leg_TL {F : Nat → Nat} {N : Nat → Nat → Nat} {Z : Nat → Int} (h : Iv F N Z) {w i : Nat} (hi : i < N 24 w) : TL F N w := by
  by_cases q : TL F N w
  · exact q
  · have := (h.1.2.2.1 w q).1
    omega
theorem rd_plan {F : Nat → Nat} {M C : Nat → Nat → Nat} {Z : Nat → Int} (h : Rel F M C Z) (hF : FB F) {t : Nat} : (anyB (fun k => decide (0 < Z (10 * t + k))) (C 8 t) = true) ↔ (C 23 t ≠ 0 ∧ plB F C t = true) := by
  obtain ⟨hI, hU, -⟩ := id h
  obtain ⟨⟨i1, i2, i3, i4, i5, i6, i7⟩, i8⟩ := id hI
  rw [anyB_iff]
  constructor
  · rintro ⟨k, hk, hp⟩
    have hp := of_decide_eq_true hp
    rw [i8] at hp
    obtain ⟨w, i, hi, hc⟩ := cvS_pos _ hp
    have hc := of_decide_eq_true hc
    have hT := leg_TL hI hi
    obtain ⟨a1, a2, a3⟩ := i1.2.2.1 w i hT hi
    have h8 : C 8 t ≤ 10 := i2 8 t
    have h8' : C 8 (C 27 (3 * w + i)) ≤ 10 := i2 8 _
    have e : C 27 (3 * w + i) = t := by omega
    refine ⟨?_, ?_⟩
    · have := hU.2 w i hi
      rw [e] at this
      omega
    · have hus : usB C w t = true := anyB_ex (k := i) hi (decide_eq_true e)
      refine anyB_ex (k := w / 2) hT.1 ?_
      rw [Bool.or_eq_true]
      have h21 : C 21 (w / 2) ≤ 1 := i2 21 _
      rcases hT.2 with q | q
      · left
        rw [show 2 * (w / 2) = w by omega]; exact hus
      · by_cases e2 : w % 2 = 0
        · left
          rw [show 2 * (w / 2) = w by omega]; exact hus
        · right
          have : wayN C (w / 2) = w := by unfold wayN; omega
          rw [this]; exact hus
  · rintro ⟨-, hp⟩
    have fin : ∀ w, usB C w t = true → ∃ k, k < C 8 t ∧ decide (0 < Z (10 * t + k)) = true := fun w hu => by
      obtain ⟨i, hi, hc⟩ := (anyB_iff _ _).mp hu
      have hc := of_decide_eq_true hc
      have hT := leg_TL hI hi
      obtain ⟨a1, a2, a3⟩ := i1.2.2.1 w i hT hi
      rw [hc] at a3
      refine ⟨C 28 (3 * w + i), by omega, decide_eq_true ?_⟩
      rw [i8]
      exact cvS_ge i2 hi (decide_eq_true (by rw [hc]; omega)) 120 (TL_lt hF hT)
    obtain ⟨b, hb, hc⟩ := (anyB_iff _ _).mp hp
    rw [Bool.or_eq_true] at hc
    rcases hc with hc | hc
    · exact fin _ hc
    · exact fin _ hc
theorem rd_empty {F : Nat → Nat} {M C : Nat → Nat → Nat} {Z : Nat → Int} (h : Rel F M C Z) {b : Nat} (hb : b < F 4) (r : Int) : okEmpty F M b r ↔ (C 21 b = 0 ∧ C 25 (2 * b) = 1 ∧ arW C (2 * b) ≤ F 1 ∧ F 1 ≤ r ∧ r ≤ 1439) := by
  have hL := h.2.2.1
  have hN := h.1.1.2.1
  unfold okEmpty
  rw [rd_arr h hb, hL 21 (by decide) (by decide) (by decide)]
  by_cases e : C 21 b = 0
  · rw [(way_0 e).1]
    have hth := thW_le hN (2 * b)
    have : arW C (2 * b) ≠ -1 ↔ C 25 (2 * b) = 1 := by
      unfold arW
      by_cases q : C 25 (2 * b) = 1
      · rw [if_pos q]; exact ⟨fun _ => q, fun _ => by omega⟩
      · rw [if_neg q]; exact ⟨fun z => absurd rfl z, fun z => absurd z q⟩
    rw [this]
  · exact ⟨fun q => absurd q.1 e, fun q => absurd q.1 e⟩
theorem rd_mark {F : Nat → Nat} {M C : Nat → Nat → Nat} {Z : Nat → Int} (h : Rel F M C Z) {b : Nat} (hb : b < F 4) : (if M 23 (2 * b) = 0 then -1 else (cntB (mkB (hsM M) M) (flB (hsM M) M b) : Int)) = (if C 25 (2 * b) = 1 then (cntB (mkB (hsC C) C) (flB (hsC C) C b) : Int) else -1) := by
  rw [rd_fl h (by omega), cntB_eq (P := mkB (hsM M) M) (P' := mkB (hsC C) C) _ (fun i hi => rd_mk h (by have := flB_le (hsC C) C b; omega))]
  rcases h.st (w := 2 * b) (by omega) with s | s | s
  · rw [if_pos s.2.2.1, if_neg (by omega)]
  · rw [if_neg (by omega), if_pos s.1]
  · rw [if_pos s.2.2.1, if_neg (by omega)]
