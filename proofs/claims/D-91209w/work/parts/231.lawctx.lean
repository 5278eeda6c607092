set_option maxRecDepth 100000
/-! what holds all through the law -/
def nw (s : State) : Nat → Prop := fun q => s.heap.size ≤ q
def LX (p : Program) (s : State) (m : MethodId) (c : Code) (b L : Nat) (ys : Nat → Int) (D : va_G) (cA : Nat → ClassId) (sa : Nat → Nat) (o oa : Nat) (ad : Nat → Nat) : Prop :=
  p.tables.exec = Jvm.exec ∧ c.code = code ∧ c.maxLocals = 7 ∧ s.vm.findClass RX0 = some m.cls ∧ (∀ w ∈ lw_all, w.before #[Value.ref b] s = true) ∧ Kx D cA s ∧ SX (nw s) sa s ∧ TX (nw s) s ∧ va_Nc RJ6 RJ18 s ∧ va_X b L (fun j => iI (ys j)) s s.heap ∧ b < s.heap.size ∧ (∀ j, inR (ys j)) ∧ L ≤ 448 ∧ ¬ AMs o ad oa ∧ nw s oa ∧ (∀ q, AMs o ad q → nw s q)
theorem acs_nw {s : State} {o oa : Nat} {ad : Nat → Nat} : ∀ q, ACs s.heap.size o oa ad q → nw s q := fun _ h => h.1
theorem acs_oa {n o oa : Nat} {ad : Nat → Nat} : ¬ ACs n o oa ad oa := fun h => h.2.2 rfl
section LP
variable {D : va_G} {cA : Nat → ClassId} {sa : Nat → Nat} {adC : Nat → Nat → Nat} {F : Nat → Nat} {C : Nat → Nat → Nat} {Z : Nat → Int} {E : Nat → Nat → Int} {s : State} {H : Heap} {locs : List Loc} {As : List Value} {o oa : Nat} {ad : Nat → Nat} {g : Nat → Int64}
/-- a call of the component -/
theorem lpC (hK : Kx D cA s) (hSX : SX (nw s) sa s) (hS : va_S (nw s) s.heap H locs) (hW : CW D cA (ACs s.heap.size o oa ad) sa adC F C Z E H) : PreV s H RX1 (adC 0 0) (PC D cA (ACs s.heap.size o oa ad) sa adC F C Z E (.ref (adC 0 0) :: As)) As :=
  ⟨PC.blind, va_recv hK.1 (va_P1 hW.c0) (q := (RX1, TX1, 7)) rfl (q0 := 0) rfl, fun U hU hWm => ⟨rfl, hK.moved hWm, (hSX.call hS hU hWm.alike).narrow acs_nw, by rw [hU]; exact hW⟩⟩
theorem lpS (hK : Kx D cA s) (hSX : SX (nw s) sa s) (hS : va_S (nw s) s.heap H locs) (hW : CW D cA (ACs s.heap.size o oa ad) sa adC F C Z E H) : PreV s H RX1 (adC 0 0) (PS D cA (ACs s.heap.size o oa ad) sa adC F C Z E (.ref (adC 0 0) :: As) H.size) As :=
  ⟨Pq.blind (fun U g mk a h => ⟨⟨h.1.1.blind, h.1.2⟩, h.2⟩), va_recv hK.1 (va_P1 hW.c0) (q := (RX1, TX1, 7)) rfl (q0 := 0) rfl, fun U hU hWm => ⟨rfl, hK.moved hWm, ⟨(hSX.call hS hU hWm.alike).narrow acs_nw, by rw [hU]; exact hW⟩, by rw [hU]⟩⟩
/-- a call of a helper -/
theorem lpH (hK : Kx D cA s) (hSX : SX (nw s) sa s) (hTX : TX (nw s) s) (hS : va_S (nw s) s.heap H locs) (hW : CW D cA (ACs s.heap.size o oa ad) sa adC F C Z E H) (hO : OC D cA oa g H) : PreS s H (PH D cA (ACs s.heap.size o oa ad) sa adC F C Z E oa g As) As :=
  ⟨Pq.blind (fun U g mk a h => ⟨⟨⟨h.1.1.1.blind, h.1.1.2⟩, h.1.2.blind⟩, h.2⟩), fun U hU hWm => ⟨rfl, hK.moved hWm, ⟨⟨(hSX.call hS hU hWm.alike).narrow acs_nw, by rw [hU]; exact hW⟩, (hTX.call hS hU hWm.alike).narrow acs_nw⟩, by rw [hU]; exact hO⟩⟩
theorem lpHn (hK : Kx D cA s) (hSX : SX (nw s) sa s) (hTX : TX (nw s) s) (hNc : va_Nc RJ6 RJ18 s) (hS : va_S (nw s) s.heap H locs) (hW : CW D cA (ACs s.heap.size o oa ad) sa adC F C Z E H) (hO : OC D cA oa g H) : PreS s H (PHn D cA (ACs s.heap.size o oa ad) sa adC F C Z E oa g As) As :=
  ⟨Pq.blind (fun U g mk a h => ⟨⟨⟨⟨h.1.1.1.1.blind, h.1.1.1.2⟩, h.1.1.2.blind⟩, h.1.2⟩, h.2.moved (Vm.Alike.refl _)⟩), fun U hU hWm => ⟨rfl, hK.moved hWm, ⟨⟨⟨(hSX.call hS hU hWm.alike).narrow acs_nw, by rw [hU]; exact hW⟩, (hTX.call hS hU hWm.alike).narrow acs_nw⟩, by rw [hU]; exact hO⟩, hNc.moved hWm.alike⟩⟩
/-- a call of the reference -/
theorem lpM {G : Nat → Nat} {M X : Nat → Nat → Nat} (hK : Kx D cA s) (hM : MW D cA (AMs o ad) o ad F G M X Z H) : PreV s H RX2 o (Pk D cA (.ref o :: As) (MW D cA (AMs o ad) o ad F G M X Z)) As := preV hK hM.1 (q := (RX2, TX2, 38)) rfl hM
end LP
theorem fresh_Z {F : Nat → Nat} {M C : Nat → Nat → Nat} {Z : Nat → Int} (h : Rel F M C Z) {t j : Nat} (ht : F 3 ≤ t) : Z (10 * t + j) = 0 := by
  have hI := h.1
  have h0 := (cvS_B hI.1.2.1 (10 * t + j) 120).1
  rw [hI.2]
  by_cases q : 0 < cvS C (10 * t + j) 120
  · obtain ⟨w, i, hi, hc⟩ := cvS_pos _ q
    have hc := of_decide_eq_true hc
    obtain ⟨a1, a2, a3⟩ := hI.1.1.2.2.1 w i (leg_TL hI hi) hi
    have h8 : C 8 (C 27 (3 * w + i)) ≤ 10 := hI.1.2.1 8 _
    omega
  · omega
section LE
variable {p : Program} {l : Launch} {e : Env} {R : Room} {s : State} {m : MethodId} {args : Array Value} {below : List Frame} {meth : Method} {c : Code} {H : Heap} {locs : List Loc} {cells slots : Nat} {Q : State → Prop} {cc : ByteArray} {pc : Nat} {ls : Array Slot} {rest : List Value}
theorem i_same (hx : p.tables.exec = Jvm.exec) (hb : c.code = cc) {x : Int32} {off : Int} {tgt : Nat} (hdg : decode cc pc = .ok (.if_icmp .eq off, 3)) (ht : (pc : Int) + off = (tgt : Int)) (kt : W p l e R s m args below meth c H locs cells slots Q (F0 m tgt ls rest)) : W p l e R s m args below meth c H locs cells slots Q (F0 m pc ls (.int x :: .int x :: rest)) :=
  lv_icmp_eq hx hb hdg ht (fun _ => kt) (fun h => absurd rfl h)
end LE
theorem ao_nw {s : State} {o oa : Nat} {ad : Nat → Nat} (hon : nw s oa) {q : Nat} (h : Ao (ACs s.heap.size o oa ad) oa q) : nw s q := by
  rcases h with h | h
  · exact h.1
  · rw [h]; exact hon
