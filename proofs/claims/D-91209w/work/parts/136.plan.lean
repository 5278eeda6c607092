set_option maxRecDepth 100000
theorem wayL_nil {T : Nat} {N : Nat → Nat → Nat} {Z : Nat → Int} {to l s m : Nat} (h : (lkV T N Z to l s m).2.2.1 = 0) : wayL T N Z to l s m = [] := by
  cases l with
  | zero => rfl
  | succ l => unfold wayL; exact if_pos h
theorem wayL_cons {T : Nat} {N : Nat → Nat → Nat} {Z : Nat → Int} {to l s m : Nat} (h : (lkV T N Z to l s m).2.2.1 ≠ 0) : 1 ≤ l ∧ wayL T N Z to l s m = ((lkV T N Z to l s m).2.2.1 - 1, (lkV T N Z to l s m).2.2.2.1, (lkV T N Z to l s m).2.2.2.2) :: wayL T N Z to (l - 1) (N 9 (10 * ((lkV T N Z to l s m).2.2.1 - 1) + (lkV T N Z to l s m).2.2.2.2)) (behN N (10 * ((lkV T N Z to l s m).2.2.1 - 1) + (lkV T N Z to l s m).2.2.2.2)) := by
  cases l with
  | zero => exact absurd rfl h
  | succ l =>
    refine ⟨by omega, ?_⟩
    rw [show l + 1 - 1 = l by omega]
    conv => lhs; unfold wayL
    exact if_neg h
theorem addL_24 {w : Nat} : ∀ (L : List (Nat × Nat × Nat)) (N : Nat → Nat → Nat), (L.foldl (addL w) N) 24 w = N 24 w + L.length
  | [], N => rfl
  | q :: L, N => by
    rw [List.foldl_cons, addL_24 L, List.length_cons]
    show up2 _ 24 w (N 24 w + 1) 24 w + _ = _
    rw [up2_eq]
    omega
theorem wayL_len {T : Nat} {N : Nat → Nat → Nat} {Z : Nat → Int} {to : Nat} : ∀ (l s m : Nat), (wayL T N Z to l s m).length ≤ l
  | 0, _, _ => Nat.le_refl _
  | l + 1, s, m => by
    unfold wayL
    split
    · exact Nat.zero_le _
    · have := wayL_len (T := T) (N := N) (Z := Z) (to := to) l (N 9 (10 * ((lkV T N Z to (l + 1) s m).2.2.1 - 1) + (lkV T N Z to (l + 1) s m).2.2.2.2)) (behN N (10 * ((lkV T N Z to (l + 1) s m).2.2.1 - 1) + (lkV T N Z to (l + 1) s m).2.2.2.2))
      rw [List.length_cons]
      omega
/-- a way led on: arrays, loads, whether there is one -/
def ldOn (T : Nat) (N : Nat → Nat → Nat) (Z : Nat → Int) (b s m : Nat) : (Nat → Nat → Nat) × (Nat → Int) × Nat :=
  if (lkV T N Z (toN N b) (3 - N 24 (wayN N b)) s m).1 < 268435456 then
    (ledN (wayA T N Z b s m) (wayN N b), ldZ (ledN (wayA T N Z b s m) (wayN N b)) (wayN N b) 1 (N 24 (wayN N b)) ((wayA T N Z b s m) 24 (wayN N b) - N 24 (wayN N b)) Z, 1)
  else (N, Z, 0)
def pStep (F : Nat → Nat) (q : (Nat → Nat → Nat) × (Nat → Int) × Nat) (b : Nat) : (Nat → Nat → Nat) × (Nat → Int) × Nat :=
  if q.1 25 (wayN q.1 b) ≠ 0 then
    ((ldOn (F 3) q.1 q.2.1 b (q.1 25 (wayN q.1 b) - 1) (max (F 1) (q.1 26 (wayN q.1 b)))).1, (ldOn (F 3) q.1 q.2.1 b (q.1 25 (wayN q.1 b) - 1) (max (F 1) (q.1 26 (wayN q.1 b)))).2.1, q.2.2 + (ldOn (F 3) q.1 q.2.1 b (q.1 25 (wayN q.1 b) - 1) (max (F 1) (q.1 26 (wayN q.1 b)))).2.2)
  else if q.1 22 (wayN q.1 b) = 0 ∧ F 1 ≤ rdN q.1 b then
    ((ldOn (F 3) q.1 q.2.1 b (frN q.1 b) (srtN q.1 b)).1, (ldOn (F 3) q.1 q.2.1 b (frN q.1 b) (srtN q.1 b)).2.1, q.2.2 + (ldOn (F 3) q.1 q.2.1 b (frN q.1 b) (srtN q.1 b)).2.2)
  else q
def pIt (F : Nat → Nat) (N : Nat → Nat → Nat) (Z : Nat → Int) : Nat → (Nat → Nat → Nat) × (Nat → Int) × Nat
  | 0 => (N, Z, 0)
  | n + 1 => pStep F (pIt F N Z n) n
/-- a train falls away: the legs from it on go (first pass): arrays, loads, which boxes give up some, how many -/
def c1Step (t : Nat) (q : (Nat → Nat → Nat) × (Nat → Int) × (Nat → Nat) × Nat) (b : Nat) : (Nat → Nat → Nat) × (Nat → Int) × (Nat → Nat) × Nat :=
  if fOn q.1 (wayN q.1 b) t = -1 then (q.1, q.2.1, va_up q.2.2.1 b 0, q.2.2.2)
  else (up2 (up2 q.1 24 (wayN q.1 b) (fOn q.1 (wayN q.1 b) t).toNat) 23 (wayN q.1 b) 0, ldZ q.1 (wayN q.1 b) (-1) (fOn q.1 (wayN q.1 b) t).toNat (q.1 24 (wayN q.1 b) - (fOn q.1 (wayN q.1 b) t).toNat) q.2.1, va_up q.2.2.1 b 1, q.2.2.2 + 1)
def c1It (t : Nat) (N : Nat → Nat → Nat) (Z : Nat → Int) (g : Nat → Nat) : Nat → (Nat → Nat → Nat) × (Nat → Int) × (Nat → Nat) × Nat
  | 0 => (N, Z, g, 0)
  | n + 1 => c1Step t (c1It t N Z g n) n
/-- where its legs lead -/
def endN (N : Nat → Nat → Nat) (b : Nat) : Nat := if N 24 (wayN N b) = 0 then frN N b else N 9 (10 * N 27 (3 * wayN N b + (N 24 (wayN N b) - 1)) + N 29 (3 * wayN N b + (N 24 (wayN N b) - 1)))
/-- second pass: led on from where they end, or standing there -/
def c2Step (F : Nat → Nat) (q : (Nat → Nat → Nat) × (Nat → Int)) (b : Nat) : (Nat → Nat → Nat) × (Nat → Int) :=
  if (ldOn (F 3) q.1 q.2 b (endN q.1 b) (max (F 1) (thrN q.1 (wayN q.1 b) b))).2.2 = 0 then
    (up2 (up2 q.1 25 (wayN q.1 b) (endN q.1 b + 1)) 26 (wayN q.1 b) (max (F 1) (thrN q.1 (wayN q.1 b) b)), q.2)
  else ((ldOn (F 3) q.1 q.2 b (endN q.1 b) (max (F 1) (thrN q.1 (wayN q.1 b) b))).1, (ldOn (F 3) q.1 q.2 b (endN q.1 b) (max (F 1) (thrN q.1 (wayN q.1 b) b))).2.1)
def c2It (F : Nat → Nat) (g : Nat → Nat) (N : Nat → Nat → Nat) (Z : Nat → Int) : Nat → (Nat → Nat → Nat) × (Nat → Int)
  | 0 => (N, Z)
  | n + 1 => if g n = 0 then c2It F g N Z n else c2Step F (c2It F g N Z n) n
theorem ldOn_yes {T : Nat} {N : Nat → Nat → Nat} {Z : Nat → Int} {b s m : Nat} (h : (lkV T N Z (toN N b) (3 - N 24 (wayN N b)) s m).1 < 268435456) : ldOn T N Z b s m = (ledN (wayA T N Z b s m) (wayN N b), ldZ (ledN (wayA T N Z b s m) (wayN N b)) (wayN N b) 1 (N 24 (wayN N b)) ((wayA T N Z b s m) 24 (wayN N b) - N 24 (wayN N b)) Z, 1) := if_pos h
theorem ldOn_no {T : Nat} {N : Nat → Nat → Nat} {Z : Nat → Int} {b s m : Nat} (h : ¬ (lkV T N Z (toN N b) (3 - N 24 (wayN N b)) s m).1 < 268435456) : ldOn T N Z b s m = (N, Z, 0) := if_neg h
theorem fOnR_ge {N : Nat → Nat → Nat} {w t : Nat} : ∀ (r i : Nat), fOnR N w t r i = -1 ∨ ((i : Int) ≤ fOnR N w t r i ∧ fOnR N w t r i < (i + r : Nat))
  | 0, i => Or.inl rfl
  | r + 1, i => by
    unfold fOnR
    split
    · exact Or.inr ⟨Int.le_refl _, by omega⟩
    · rcases fOnR_ge (N := N) (w := w) (t := t) r (i + 1) with h | h
      · exact Or.inl h
      · exact Or.inr ⟨by omega, by omega⟩
theorem fOn_ge (N : Nat → Nat → Nat) (w t : Nat) : fOn N w t = -1 ∨ (0 ≤ fOn N w t ∧ fOn N w t < N 24 w) := by
  rcases fOnR_ge (N := N) (w := w) (t := t) (N 24 w) 0 with h | h
  · exact Or.inl h
  · exact Or.inr ⟨h.1, by have := h.2; unfold fOn; omega⟩
theorem endN_le {N : Nat → Nat → Nat} (h : NB N) (b : Nat) : endN N b ≤ 9 := by
  unfold endN
  split
  · exact frN_lt h b
  · exact h 9 _
theorem ldOn_le {T : Nat} {N : Nat → Nat → Nat} {Z : Nat → Int} {b s m : Nat} : (ldOn T N Z b s m).2.2 ≤ 1 := by
  unfold ldOn
  split
  · exact Nat.le_refl _
  · exact Nat.zero_le _
theorem ldOn_0 {T : Nat} {N : Nat → Nat → Nat} {Z : Nat → Int} {b s m : Nat} (h : (ldOn T N Z b s m).2.2 = 0) : (ldOn T N Z b s m).1 = N ∧ (ldOn T N Z b s m).2.1 = Z := by
  by_cases c : (lkV T N Z (toN N b) (3 - N 24 (wayN N b)) s m).1 < 268435456
  · rw [ldOn_yes c] at h
    have h : (1 : Nat) = 0 := h
    exact absurd h (by decide)
  · rw [ldOn_no c]
    exact ⟨rfl, rfl⟩
theorem up2_37 (X : Nat → Nat → Nat) (b v : Nat) : (up2 X 37 b v) 37 = va_up (X 37) b v := up2_self X 37 b v
/-! shares -/
def smB (f : Nat → Nat) : Nat → Nat
  | 0 => 0
  | n + 1 => smB f n + f n
theorem smB_le (f : Nat → Nat) (c : Nat) (h : ∀ i, f i ≤ c) : ∀ n, smB f n ≤ n * c
  | 0 => by simp [smB]
  | n + 1 => by
    have h1 := smB_le f c h n
    have h2 := h n
    unfold smB
    rw [Nat.succ_mul]
    omega
/-- the days that count, and their sum -/
def dzN (F : Nat → Nat) (N : Nat → Nat → Nat) (i : Nat) : Nat := if smB (N 12) (F 5) = 0 then 1 else N 12 i
def dsN (F : Nat → Nat) (N : Nat → Nat → Nat) : Nat := if smB (N 12) (F 5) = 0 then F 5 else smB (N 12) (F 5)
def shP (F : Nat → Nat) (N : Nat → Nat → Nat) (c sum i : Nat) : Bool := decide (sum * dzN F N c % dsN F N < sum * dzN F N i % dsN F N ∨ (sum * dzN F N i % dsN F N = sum * dzN F N c % dsN F N ∧ i < c))
def shV (F : Nat → Nat) (N : Nat → Nat → Nat) (c sum : Nat) : Int := (sum * dzN F N c / dsN F N : Nat) + (if (cntB (shP F N c sum) (F 5) : Int) < (sum : Int) - (smB (fun i => sum * dzN F N i / dsN F N) (F 5) : Nat) then 1 else 0)
theorem dz_le {F : Nat → Nat} {N : Nat → Nat → Nat} (h : NB N) (i : Nat) : dzN F N i ≤ 31 := by
  unfold dzN
  split
  · decide
  · exact h 12 i
theorem mul_31 {a b : Nat} (ha : a ≤ 10000000) (hb : b ≤ 31) : a * b ≤ 310000000 := Nat.le_trans (Nat.mul_le_mul ha hb) (by decide)
theorem iI_l {n : Nat} (h : n < 2147483648) : (iI (n : Int)).toInt64 = lN n := by rw [iI_nat]; exact nI_l (by omega)
theorem lI_i (n : Nat) : (lN n).toInt32 = iI (n : Int) := by rw [iI_nat]; exact lN_i n
theorem lcmp_gt {a b : Nat} (ha : a < 2 ^ 63) (hb : b < 2 ^ 63) : lg_cmp (lN a) (lN b) = iI (if b < a then 1 else if a = b then 0 else -1) := by
  unfold lg_cmp
  by_cases h1 : b < a
  · rw [if_pos ((pk_lLT hb ha).mpr h1), if_pos h1]; rfl
  · rw [if_neg (fun q => h1 ((pk_lLT hb ha).mp q)), if_neg h1]
    by_cases h2 : a = b
    · rw [if_pos (by rw [h2]), if_pos h2]; rfl
    · rw [if_neg (fun q => h2 ((pk_lEQ ha hb).mp q)), if_neg h2]; rfl
section LR
variable {p : Program} {l : Launch} {e : Env} {R : Room} {s : State} {m : MethodId} {args : Array Value} {below : List Frame} {meth : Method} {c : Code} {H : Heap} {locs : List Loc} {cells slots : Nat} {Q : State → Prop} {cc : ByteArray} {pc : Nat} {ls : Array Slot} {rest : List Value}
theorem rl_i2l (hx : p.tables.exec = Jvm.exec) (hb : c.code = cc) {z : Int} (n : Nat) (hz : z = (n : Int)) (hn : n < 2147483648) (hdg : decode cc pc = .ok (.i2l, 1)) (k : W p l e R s m args below meth c H locs cells slots Q (F0 m (pc + 1) ls (.long (lN n) :: rest))) : W p l e R s m args below meth c H locs cells slots Q (F0 m pc ls (.int (iI z) :: rest)) := by
  subst hz
  exact lv_i2l hx hb hdg (iI_l hn) k
theorem rl_mul (hx : p.tables.exec = Jvm.exec) (hb : c.code = cc) {a b : Nat} (hdg : decode cc pc = .ok (.lmul, 1)) (k : W p l e R s m args below meth c H locs cells slots Q (F0 m (pc + 1) ls (.long (lN (a * b)) :: rest))) : W p l e R s m args below meth c H locs cells slots Q (F0 m pc ls (.long (lN b) :: .long (lN a) :: rest)) := lv_lmul hx hb hdg (by rw [lN_mul]; exact k)
theorem rl_div (hx : p.tables.exec = Jvm.exec) (hb : c.code = cc) {a b : Nat} (ha : a < 2147483648) (h0 : 0 < b) (hb2 : b < 2147483648) (hdg : decode cc pc = .ok (.ldiv, 1)) (k : W p l e R s m args below meth c H locs cells slots Q (F0 m (pc + 1) ls (.long (lN (a / b)) :: rest))) : W p l e R s m args below meth c H locs cells slots Q (F0 m pc ls (.long (lN b) :: .long (lN a) :: rest)) :=
  lv_ldiv hx hb hdg (fun q => absurd ((pk_lEQ (a := b) (b := 0) (by omega) (by omega)).mp q) (by omega)) (by rw [pk_lDiv (by omega) h0 (by omega)]; exact k)
theorem rl_rem (hx : p.tables.exec = Jvm.exec) (hb : c.code = cc) {a b : Nat} (ha : a < 2147483648) (h0 : 0 < b) (hb2 : b < 2147483648) (hdg : decode cc pc = .ok (.lrem, 1)) (k : W p l e R s m args below meth c H locs cells slots Q (F0 m (pc + 1) ls (.long (lN (a % b)) :: rest))) : W p l e R s m args below meth c H locs cells slots Q (F0 m pc ls (.long (lN b) :: .long (lN a) :: rest)) :=
  lv_lrem hx hb hdg (fun q => absurd ((pk_lEQ (a := b) (b := 0) (by omega) (by omega)).mp q) (by omega)) (by rw [pk_lRem (by omega) h0 (by omega)]; exact k)
theorem rl_l2i (hx : p.tables.exec = Jvm.exec) (hb : c.code = cc) {n : Nat} (hdg : decode cc pc = .ok (.l2i, 1)) (k : W p l e R s m args below meth c H locs cells slots Q (F0 m (pc + 1) ls (.int (iI (n : Int)) :: rest))) : W p l e R s m args below meth c H locs cells slots Q (F0 m pc ls (.long (lN n) :: rest)) := lv_l2i hx hb hdg (lI_i n) k
theorem rl_cmp (hx : p.tables.exec = Jvm.exec) (hb : c.code = cc) {a b : Nat} (ha : a < 2147483648) (hb2 : b < 2147483648) (hdg : decode cc pc = .ok (.lcmp, 1)) (k : W p l e R s m args below meth c H locs cells slots Q (F0 m (pc + 1) ls (.int (iI (if b < a then 1 else if a = b then 0 else -1)) :: rest))) : W p l e R s m args below meth c H locs cells slots Q (F0 m pc ls (.long (lN b) :: .long (lN a) :: rest)) := W.lcmp hx hb hdg (by rw [lcmp_gt (by omega) (by omega)]; exact k)
theorem rl_top {a b : Nat} (h : a = b) (k : W p l e R s m args below meth c H locs cells slots Q (F0 m pc ls (.long (lN b) :: rest))) : W p l e R s m args below meth c H locs cells slots Q (F0 m pc ls (.long (lN a) :: rest)) := h ▸ k
end LR
